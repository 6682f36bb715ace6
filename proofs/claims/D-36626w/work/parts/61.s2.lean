/-! THE SOLVER: paths begun, offered, settled (by gen/spec_s2.py) -/
set_option maxRecDepth 100000
set_option maxHeartbeats 4000000
section S2S
variable {X : Cx} {bc bs pc : Nat} {lv : List (Nat × Int)} {st : List Value} {E : Ev} {w w0 u u' : Wd} {P : Int → Int → Prop} {T r c n m sn sm l i j k v a z xo b it x sz s fd far q : Int} {h h' sh C0 : Int → Int → Int} {f g : Int → Int} {e : En} {S : Int → Prop}
theorem PQ.upx {qv co : Int} {rk : Int → Int} (H : PQ E u qv co s S rk) (h1 : qv ≠ a) (h2 : rdw u qv 0 ≠ a) : PQ E (upw u a i x) qv co s S rk ∧ rdw (upw u a i x) qv 0 = rdw u qv 0 := H.gr (P := fun c _ => c = a) (Gr.rf.up rfl) (fun _ z => h1 z) (fun _ z => h2 z)
theorem WV.nop (H : WV u r) (hG : Gr NoP u u') : WV u' r ∧ rkW u' r = rkW u r ∧ ∀ i, rdw u' r i = rdw u r i := H.gr hG (fun _ => id)
theorem XI.bk (H : XI E xo b u) (hk : 0 ≤ k ∧ k ≤ 31) (hG : Gr NoP u u') (i : Int) : rdw u' (b + k) i = rdw u (b + k) i := hG.rd (by rw [H.2.1 k hk.1 hk.2]; exact xK_ne _ _) id
theorem QS.nop (H : QS E xo b sz u s S fd) (hV : XI E xo b u) (hG : Gr NoP u u') : QS E xo b sz u' s S fd := by
  obtain ⟨h1, h2, h3, h4, h5⟩ := H
  have g := h1.gr hG (fun _ => id) (fun _ => id)
  have hka : kdw u (rdw u (b + 15) 0) = qk b := h1.2.1.2.1
  refine ⟨g.1.rk (fun r hr => ((h2 r hr).1.nop hG).2.1), fun r hr => ?_, ?_, ?_, fun j j0 j1 => ?_⟩
  · have hw := (h2 r hr).1.nop hG
    rw [hw.2.2, hw.2.2, hV.bk (by omega) hG]
    exact ⟨hw.1, (h2 r hr).2⟩
  · rw [hG.rd (by rw [hV.hk]; decide) id]; exact h3
  · rw [g.2, hG.ln (by rw [hka]; unfold qk; omega)]; exact h4
  · rw [hV.bk (by omega) hG, hV.bk (by omega) hG]; exact h5 j j0 j1
theorem QO.nop (H : QO b sz u S x) (hV : XI E xo b u) (hS : ∀ r, S r → WV u r) (hG : Gr NoP u u') : QO b sz u' S x := fun j j0 j1 jx h1 h2 => by
  rw [hV.bk (by omega) hG] at h1 h2
  obtain ⟨r, hr, e1, e2⟩ := H j j0 j1 jx h1 h2
  have hw := (hS r hr).nop hG
  exact ⟨r, hr, by rw [hw.2.2]; exact e1, by rw [hw.2.2, hV.bk (by omega) hG]; exact e2⟩
/-- what a queue's own writes leave -/
theorem qP_x (hV : XI E xo b u) (hka : kdw u (rdw u (b + 15) 0) = qk b) (hF : Gr (fun a _ => qP E u (b + 15) a) u u') : (∀ i, rdw u' xo i = rdw u xo i) ∧ (∀ k i : Int, 0 ≤ k → k ≤ 31 → k ≠ 15 → k ≠ 17 → rdw u' (b + k) i = rdw u (b + k) i) := by
  have h1 := hV.1.2.1
  refine ⟨fun i => hF.rd (by rw [hV.hk]; decide) (fun z => ?_), fun k i k0 k1 n15 n17 => hF.rd (by rw [hV.2.1 k k0 k1]; exact xK_ne _ _) (fun z => ?_)⟩
  · rcases z with z | z
    · omega
    · have h2 := hV.hk
      rw [z, hka] at h2; unfold qk at h2; omega
  · rcases z with z | z
    · omega
    · exact hV.kq ⟨k0, k1⟩ n17 (by rw [z]; exact hka)
theorem qP_w (hka : kdw u (rdw u (b + 15) 0) = qk b) (h15 : kdw u (b + 15) = 9) (hr : kdw u r = 3) : ¬ qP E u (b + 15) r := by
  rintro (z | z)
  · rw [z, h15] at hr; omega
  · rw [z, hka] at hr; unfold qk at hr; omega
theorem qP_zq (hka : kdw u (rdw u (b + 15) 0) = qk b) (hb : (eB E : Int) ≤ rdw u (b + 15) 0) {a i : Int} (hz : qP E u (b + 15) a) : ZQ E xo b u a i := by
  rcases hz with z | z
  · exact Or.inr (Or.inr (Or.inr (Or.inr (Or.inl z))))
  · exact Or.inr (Or.inr (Or.inr (Or.inr (Or.inr ⟨by rw [z]; exact hka, by rw [z]; exact hb⟩))))
def gsl (c : Int) : Nat := if c = 11 then 74 else if c = 24 then 50 else 0
def nwS (w : Wd) (b s : Int) : Nat := if s < lnw w (rdw w (b + 15) 0) then 0 else (pqN s).toNat
theorem gsl_ok (hc : c = 11 ∨ c = 24 ∨ c = 50) (hs : 0 ≤ s ∧ s ≤ c ∧ s ≤ 49) : ((if s < c then c else pqN s) = 11 ∨ (if s < c then c else pqN s) = 24 ∨ (if s < c then c else pqN s) = 50) ∧ gsl (if s < c then c else pqN s) + (if s < c then 0 else (pqN s).toNat) ≤ gsl c := by
  by_cases h : s < c
  · simp only [if_pos h]; exact ⟨hc, by omega⟩
  · simp only [if_neg h]
    have hsc : s = c := by omega
    rcases hc with z | z | z
    · rw [hsc, z]; decide
    · rw [hsc, z]; decide
    · omega
theorem fb255 : True := trivial
theorem c_s_beginPaths (hX0 : XI E xo b w) (hQ : XQ E b w) (h6 : rdw w xo 6 = sz) (hz : 1 ≤ sz ∧ sz ≤ 7) : Call E mX1_beginPaths 1 0 0 [vR xo] w (qU (fun w' => XI E xo b w' ∧ Fr (ZQ E xo b w) w w' ∧ QS E xo b sz w' 0 (fun _ => False) 0 ∧ ∀ j : Int, 0 ≤ j → j < sz → rdw w' (b + 12) j = 1048576 ∧ rdw w' (b + 14) j = 0)) := by
  refine call_of (av := [(1, xo)]) (by decide +kernel) rfl (Nat.le_of_ble_eq_true rfl) ?_
  intro X hX hF hname
  show GG X 0 0 w 0 [(1, xo), (9, 0)] []
  have hV := hX0
  have hxb := hX0.1.2.1
  obtain ⟨s0, S0, hPQ, hS0, hcap⟩ := hQ
  have hka : kdw w (rdw w (b + 15) 0) = qk b := hPQ.2.1.2.1
  have h15 := hX0.kk 15 (by decide) (show xK b 15 = 9 from rfl)
  have h12 := hX0.kk 12 (by decide) (show xK b 12 = 50 from rfl)
  have h14 := hX0.kk 14 (by decide) (show xK b 14 = 51 from rfl)
  refine g_aload_n (pc' := 1) hX dX1_beginPaths_0 rfl rfl ?_
  refine gf_X1_69 (pc' := 4) hX dX1_beginPaths_1 hV.h0 hV.hk rfl ?_
  rw [hV.f 15 (by decide) (show xF 15 = 15 from rfl)]
  refine gV0U0 (pc' := 7) hX dX1_beginPaths_4 ml_X1_157 gc_J9 (nn_b hPQ.1.1) hPQ.1.2.1 (c_j_clear hPQ) (Nat.le_of_ble_eq_true rfl) (by decide) rfl (fun w4 q4 => ?_)
  obtain ⟨hPQ, hq0, hFc⟩ := q4
  have hqx := qP_x hX0 hka hFc.gr
  have hW : Fr (ZQ E xo b w) w w4 := hFc.wk (fun a i z => qP_zq hka (by have := hPQ.2.1.1; rw [hq0] at this; exact this) z)
  have hV : XI E xo b w4 := hX0.zq hW.gr
  have h6 : rdw w4 xo 6 = sz := (hqx.1 6).trans h6
  refine g_aload_n (pc' := 8) hX dX1_beginPaths_7 rfl rfl ?_
  refine g_iconst (pc' := 9) hX dX1_beginPaths_8 rfl ?_
  refine pf_X1_244 (pc' := 12) hX dX1_beginPaths_9 hV.hb hV.hk rfl ?_
  have hPQ := (hPQ.upx (a := xo) (i := 16) (x := 0) (by omega) (by rw [hq0]; exact kd_ne (k := qk b) (by rw [hW.kd]; exact hka) hV.hk (by unfold qk; omega)))
  refine hV.step hW (by omega) (Or.inl ⟨rfl, rfl⟩) (fun hV hW => ?_)
  have h6 : rdw (upw w4 xo 16 0) xo 6 = sz := (rd_up_ne (by omega)).trans h6
  have h16 : rdw (upw w4 xo 16 0) xo 16 = 0 := rd_up_eq ⟨rfl, rfl⟩
  have hq0 := hPQ.2.trans hq0
  have hPQ := hPQ.1
  generalize upw w4 xo 16 0 = u0 at *
  refine g_iconst (pc' := 13) hX dX1_beginPaths_12 rfl ?_
  refine g_istore_n_1 (pc' := 14) hX dX1_beginPaths_13 (by decide) rfl rfl ?_
  have loop : ∀ (f : Nat) (i : Int) (u : Wd), 0 ≤ i → i ≤ sz → XI E xo b u → Fr (ZQ E xo b w) w u → rdw u xo 6 = sz → rdw u xo 16 = 0 → PQ E u (b + 15) (b + 16) 0 (fun _ => False) (rkW w) → rdw u (b + 15) 0 = rdw w (b + 15) 0 → (∀ j : Int, 0 ≤ j → j < i → rdw u (b + 12) j = 1048576 ∧ rdw u (b + 14) j = 0) → sz < i + f → GG X 0 0 u 14 [(1, xo), (0, i)] [] := by
    intro f
    induction f with
    | zero => intro i u i0 i1 hV hW h6 h16 hPQ hq0 hA hf; exact absurd hf (by omega)
    | succ f ih =>
      intro i u i0 i1 hV hW h6 h16 hPQ hq0 hA hf
      refine g_iload_n (pc' := 15) hX dX1_beginPaths_14 rfl rfl ?_
      refine g_aload_n (pc' := 16) hX dX1_beginPaths_15 rfl rfl ?_
      refine gf_X1_237 (pc' := 19) hX dX1_beginPaths_16 hV.h0 hV.hk rfl ?_
      rw [h6]
      refine g_icmp_ge (pc' := 22) (tgt := 43) hX dX1_beginPaths_19 (by decide) rfl (by omega) (by omega) (fun h19 => ?_) (fun h19 => ?_)
      · skip
        exact g_retU hX hF dX1_beginPaths_43 ⟨hV, hW, ⟨hPQ.rk (fun _ z => z.elim), fun _ z => z.elim, ⟨h16, by omega, by omega, by omega⟩, by rw [hq0, hW.ln]; exact hcap, fun j j0 j1 => by have h1 := hA j j0 (by omega); exact ⟨Or.inl h1.2, by omega, by omega⟩⟩, fun j j0 j1 => hA j j0 (by omega)⟩
      · skip
        refine g_aload_n (pc' := 23) hX dX1_beginPaths_22 rfl rfl ?_
        refine gf_X1_51 (pc' := 26) hX dX1_beginPaths_23 hV.h0 hV.hk rfl ?_
        rw [hV.f 12 (by decide) (show xF 12 = 12 from rfl)]
        refine g_iload_n (pc' := 27) hX dX1_beginPaths_26 rfl rfl ?_
        refine g_ldc (pc' := 29) (n := 1048576) hX dX1_beginPaths_27 q565 rfl rfl ?_
        refine g_iastL (pc' := 30) hX dX1_beginPaths_29 (by have := hV.hbb; omega) (hV.kk 12 (by decide) (show xK b 12 = 50 from rfl)) (hV.ln 12 (by decide) (show xL 12 = 7 from rfl)) (by omega) rfl ?_
        have hPQ := (hPQ.upx (a := b + 12) (i := i) (x := 1048576) (by omega) (by rw [hq0]; exact kd_ne hka h12 (by unfold qk; omega)))
        refine hV.step hW (by omega) (Or.inr (Or.inl rfl)) (fun hV hW => ?_)
        have h6 : rdw (upw u (b + 12) i 1048576) xo 6 = sz := (rd_up_ne (by omega)).trans h6
        have h16 : rdw (upw u (b + 12) i 1048576) xo 16 = 0 := (rd_up_ne (by omega)).trans h16
        have hq0 := hPQ.2.trans hq0
        have hPQ := hPQ.1
        have hA : ∀ j : Int, 0 ≤ j → j < i + 1 → rdw (upw u (b + 12) i 1048576) (b + 12) j = 1048576 ∧ (j < i → rdw (upw u (b + 12) i 1048576) (b + 14) j = 0) := fun j j0 j1 => by
          refine ⟨?_, fun z => ?_⟩
          · by_cases hj : j = i
            · exact rd_up_eq ⟨rfl, hj⟩
            · rw [rd_up_ne (by omega)]; exact (hA j j0 (by omega)).1
          · rw [rd_up_ne (by omega)]; exact (hA j j0 z).2
        generalize upw u (b + 12) i 1048576 = u1 at *
        refine g_aload_n (pc' := 31) hX dX1_beginPaths_30 rfl rfl ?_
        refine gf_X1_57 (pc' := 34) hX dX1_beginPaths_31 hV.h0 hV.hk rfl ?_
        first
          | rw [hV.f 14 (by decide) (show xF 14 = 14 from rfl)]
          | (repeat rw [rd_up_ne (by omega)]); rw [hV.f 14 (by decide) (show xF 14 = 14 from rfl)]
        refine g_iload_n (pc' := 35) hX dX1_beginPaths_34 rfl rfl ?_
        refine g_iconst (pc' := 36) hX dX1_beginPaths_35 rfl ?_
        refine g_zastL (pc' := 37) hX dX1_beginPaths_36 (by have := hV.hbb; omega) (hV.kk 14 (by decide) (show xK b 14 = 51 from rfl)) (hV.ln 14 (by decide) (show xL 14 = 7 from rfl)) (by omega) (by omega) rfl ?_
        have hPQ := (hPQ.upx (a := b + 14) (i := i) (x := 0) (by omega) (by rw [hq0]; exact kd_ne hka h14 (by unfold qk; omega)))
        refine hV.step hW (by omega) (Or.inr (Or.inr (Or.inr (Or.inl rfl)))) (fun hV hW => ?_)
        have h6 : rdw (upw u1 (b + 14) i 0) xo 6 = sz := (rd_up_ne (by omega)).trans h6
        have h16 : rdw (upw u1 (b + 14) i 0) xo 16 = 0 := (rd_up_ne (by omega)).trans h16
        have hq0 := hPQ.2.trans hq0
        have hPQ := hPQ.1
        have hA : ∀ j : Int, 0 ≤ j → j < i + 1 → rdw (upw u1 (b + 14) i 0) (b + 12) j = 1048576 ∧ rdw (upw u1 (b + 14) i 0) (b + 14) j = 0 := fun j j0 j1 => by
          refine ⟨by rw [rd_up_ne (by omega)]; exact (hA j j0 j1).1, ?_⟩
          by_cases hj : j = i
          · exact rd_up_eq ⟨rfl, hj⟩
          · rw [rd_up_ne (by omega)]; exact (hA j j0 j1).2 (by omega)
        generalize upw u1 (b + 14) i 0 = u2 at *
        refine g_iinc_1 (pc' := 40) hX dX1_beginPaths_37 (by decide) rfl rfl ?_
        refine g_goto (tgt := 14) hX dX1_beginPaths_40 (by decide) ?_
        exact ih (i + 1) u2 (by omega) (by omega) hV hW h6 h16 hPQ hq0 hA (by omega)
  exact loop 9 0 u0 (by omega) (by omega) hV hW h6 h16 (hPQ.rk (fun _ z => z.elim)) hq0 (fun j j0 j1 => absurd j1 (by omega)) (by omega)

theorem c_s_offer (hX0 : XI E xo b w) (hS : QS E xo b sz w s S fd) (hO : QO b sz w S (-1)) (hfd : fd ≤ 48) (hfar : 0 ≤ far ∧ far < 1048576) (hq : 0 ≤ q ∧ q < sz) (hz : sz ≤ 7) : Call E mX1_offer 8 2 (3 + nwS w b s) [vR xo, vI far, vI q] w (qU (fun w' => XI E xo b w' ∧ Gr (ZQ E xo b w) w w' ∧ (∃ s' S' fd', QS E xo b sz w' s' S' fd' ∧ QO b sz w' S' (-1) ∧ fd ≤ fd' ∧ fd' ≤ fd + 1 ∧ (far < rdw w (b + 12) q → gsl (lnw w' (rdw w' (b + 15) 0)) + nwS w b s ≤ gsl (lnw w (rdw w (b + 15) 0)))) ∧ (∀ j, rdw w' (b + 12) j = if j = q ∧ far < rdw w (b + 12) q then far else rdw w (b + 12) j) ∧ (∀ j, rdw w' (b + 13) j = rdw w (b + 13) j) ∧ ∀ j, rdw w' (b + 14) j = rdw w (b + 14) j)) := by
  refine call_of (av := [(1, xo), (0, far), (0, q)]) (by decide +kernel) rfl (Nat.le_of_ble_eq_true rfl) ?_
  intro X hX hF hname
  show GG X 2 (3 + nwS w b s) w 0 [(1, xo), (0, far), (0, q)] []
  have hV := hX0
  have hxb := hX0.1.2.1
  obtain ⟨hPQ, hM, ⟨h16, hfd0, hfd6, hsf⟩, hcap, hD⟩ := id hS
  have hka : kdw w (rdw w (b + 15) 0) = qk b := hPQ.2.1.2.1
  have h15 := hX0.kk 15 (by decide) (show xK b 15 = 9 from rfl)
  have h12 := hX0.kk 12 (by decide) (show xK b 12 = 50 from rfl)
  have hDq := hD q hq.1 hq.2
  have hs0 := hPQ.1.2.2.2.2
  have hscap := hPQ.2.1.2.2.1
  have hgs := gsl_ok hcap ⟨hs0, hscap, by omega⟩
  have hna : rdw w (b + 15) 0 ≠ b + 12 := kd_ne hka h12 (by unfold qk; omega)
  have hnx : rdw w (b + 15) 0 ≠ xo := kd_ne hka hX0.hk (by unfold qk; omega)
  refine g_iload_n (pc' := 1) hX dX1_offer_0 rfl rfl ?_
  refine g_aload_n (pc' := 2) hX dX1_offer_1 rfl rfl ?_
  refine gf_X1_51 (pc' := 5) hX dX1_offer_2 hV.h0 hV.hk rfl ?_
  rw [hV.f 12 (by decide) (show xF 12 = 12 from rfl)]
  refine g_iload_n (pc' := 6) hX dX1_offer_5 rfl rfl ?_
  refine g_ialdL (pc' := 7) hX dX1_offer_6 (by have := hV.b0; omega) (hV.kk 12 (by decide) (show xK b 12 = 50 from rfl)) (hV.ln 12 (by decide) (show xL 12 = 7 from rfl)) (by omega) rfl ?_
  refine g_icmp_ge (pc' := 10) (tgt := 48) hX dX1_offer_7 (by decide) rfl (by omega) (by omega) (fun h7 => ?_) (fun h7 => ?_)
  · skip
    have hA0 : ∀ j, rdw w (b + 12) j = if j = q ∧ far < rdw w (b + 12) q then far else rdw w (b + 12) j := fun j => by rw [if_neg (by omega)]
    first
      | exact g_retU hX hF dX1_offer_48 ⟨hV4, hGz, ⟨s + 1, _, fd + 1, hS4, hO4, by omega, by omega, fun _ => by rw [hc4]; unfold nwS; exact hgs.2⟩, hA4, fun j => hB4 13 j (by omega) (by omega) (by omega), fun j => hB4 14 j (by omega) (by omega) (by omega)⟩
      | exact g_retU hX hF dX1_offer_48 ⟨hX0, Gr.rf, ⟨s, S, fd, hS, hO, by omega, by omega, fun z => absurd z (by omega)⟩, hA0, fun j => rfl, fun j => rfl⟩
  · skip
    refine g_aload_n (pc' := 11) hX dX1_offer_10 rfl rfl ?_
    refine gf_X1_51 (pc' := 14) hX dX1_offer_11 hV.h0 hV.hk rfl ?_
    rw [hV.f 12 (by decide) (show xF 12 = 12 from rfl)]
    refine g_iload_n (pc' := 15) hX dX1_offer_14 rfl rfl ?_
    refine g_iload_n (pc' := 16) hX dX1_offer_15 rfl rfl ?_
    refine g_iastL (pc' := 17) hX dX1_offer_16 (by have := hV.hbb; omega) (hV.kk 12 (by decide) (show xK b 12 = 50 from rfl)) (hV.ln 12 (by decide) (show xL 12 = 7 from rfl)) (by omega) rfl ?_
    have hF1 : Gr (ZQ E xo b w) w (upw w (b + 12) q far) := Gr.rf.up (Or.inr (Or.inl rfl))
    refine g_aload_n (pc' := 18) hX dX1_offer_17 rfl rfl ?_
    refine g_dup (pc' := 19) hX dX1_offer_18 (vR_cat _) rfl ?_
    refine gf_X1_244 (pc' := 22) hX dX1_offer_19 hX0.h0 hX0.hk rfl ?_
    rw [rd_up_ne (by omega), h16]
    refine g_iconst (pc' := 23) hX dX1_offer_22 rfl ?_
    refine g_iadd (pc' := 24) hX dX1_offer_23 rfl ?_
    refine pf_X1_244 (pc' := 27) hX dX1_offer_24 hV.hb hV.hk rfl ?_
    have hp1 := hPQ.upx (a := b + 12) (i := q) (x := far) (by omega) hna
    have hp2 := hp1.1.upx (a := xo) (i := 16) (x := fd + 1) (by omega) (by rw [hp1.2]; exact hnx)
    have hF2 : Gr (ZQ E xo b w) w (upw (upw w (b + 12) q far) xo 16 (fd + 1)) := hF1.up (Or.inl ⟨rfl, rfl⟩)
    have hq2 := hp2.2.trans hp1.2
    have hp2 := hp2.1
    have hV := hX0.zq hF2
    have hA : ∀ j, rdw (upw (upw w (b + 12) q far) xo 16 (fd + 1)) (b + 12) j = if j = q ∧ far < rdw w (b + 12) q then far else rdw w (b + 12) j := fun j => by
      rw [rd_up_ne (by omega)]
      by_cases hj : j = q
      · rw [rd_up_eq ⟨rfl, hj⟩, if_pos ⟨hj, by omega⟩]
      · rw [rd_up_ne (by omega), if_neg (fun z => hj z.1)]
    have hB : ∀ k j : Int, k ≠ 12 → 0 ≤ k → rdw (upw (upw w (b + 12) q far) xo 16 (fd + 1)) (b + k) j = rdw w (b + k) j := fun k j hk k0 => by rw [rd_up_ne (by omega), rd_up_ne (by omega)]
    have h162 : rdw (upw (upw w (b + 12) q far) xo 16 (fd + 1)) xo 16 = fd + 1 := rd_up_eq ⟨rfl, rfl⟩
    have hwv : ∀ r, S r → WV (upw (upw w (b + 12) q far) xo 16 (fd + 1)) r ∧ rkW (upw (upw w (b + 12) q far) xo 16 (fd + 1)) r = rkW w r ∧ ∀ i, rdw (upw (upw w (b + 12) q far) xo 16 (fd + 1)) r i = rdw w r i := fun r hr => (hM r hr).1.gr (P := fun a _ => a = b + 12 ∨ a = xo) ((Gr.rf.up (Or.inl rfl)).up (Or.inr rfl)) (fun i z => by
      have h1 := (hM r hr).1.1.2
      have h2 := hX0.hk
      rcases z with z | z
      · rw [z, h12] at h1; omega
      · rw [z, h2] at h1; omega)
    have hln : lnw (upw (upw w (b + 12) q far) xo 16 (fd + 1)) (rdw (upw (upw w (b + 12) q far) xo 16 (fd + 1)) (b + 15) 0) = lnw w (rdw w (b + 15) 0) := by rw [hq2]; rfl
    generalize upw (upw w (b + 12) q far) xo 16 (fd + 1) = u2 at *
    refine g_aload_n (pc' := 28) hX dX1_offer_27 rfl rfl ?_
    refine gf_X1_69 (pc' := 31) hX dX1_offer_28 hV.h0 hV.hk rfl ?_
    first
      | rw [hV.f 15 (by decide) (show xF 15 = 15 from rfl)]
      | (repeat rw [rd_up_ne (by omega)]); rw [hV.f 15 (by decide) (show xF 15 = 15 from rfl)]
    refine g_fr (fun hfr hs0' => ?_)
    refine g_szB hX (fun hszB => ?_)
    refine g_new (pc' := 34) (fun _ => 0) hX dX1_offer_31 gc_X5 q583 q584 q88 (by decide) (by omega) (by omega) rfl ?_
    have hxs : xo ≠ szw u2 := fun z => by have h1 := hfr xo (by omega); rw [hV.hk] at h1; omega
    have hks : kdw u2 (szw u2) = 0 := hfr _ (Int.le_refl _)
    refine g_dup (pc' := 35) hX dX1_offer_34 (vR_cat _) rfl ?_
    refine g_iload_n (pc' := 36) hX dX1_offer_35 rfl rfl ?_
    refine g_aload_n (pc' := 37) hX dX1_offer_36 rfl rfl ?_
    refine gf_X1_244 (pc' := 40) hX dX1_offer_37 hV.h0 (by rw [kd_al, if_neg hxs]; exact hV.hk) rfl ?_
    rw [rd_al, if_neg hxs, h162]
    refine g_iload_n (pc' := 41) hX dX1_offer_40 rfl rfl ?_
    refine gI3EU0 (pc' := 44) hX dX1_offer_41 ml_X1_249 hs0' (c_k_way hszB (by rw [kd_al, if_pos rfl])) (Nat.le_of_ble_eq_true rfl) (by decide) rfl ?_
    have hN : Gr NoP u2 (upw (upw (upw (alw u2 3 0 (fun _ => 0)) (szw u2) 0 far) (szw u2) 1 (fd + 1)) (szw u2) 2 q) := (((Gr.rf.al hfr).upN hks).upN hks).upN hks
    have w0' : rdw (upw (upw (upw (alw u2 3 0 (fun _ => 0)) (szw u2) 0 far) (szw u2) 1 (fd + 1)) (szw u2) 2 q) (szw u2) 0 = far := by rw [rd_up_ne (by omega), rd_up_ne (by omega), rd_up_eq ⟨rfl, rfl⟩]
    have w1' : rdw (upw (upw (upw (alw u2 3 0 (fun _ => 0)) (szw u2) 0 far) (szw u2) 1 (fd + 1)) (szw u2) 2 q) (szw u2) 1 = fd + 1 := by rw [rd_up_ne (by omega), rd_up_eq ⟨rfl, rfl⟩]
    have w2' : rdw (upw (upw (upw (alw u2 3 0 (fun _ => 0)) (szw u2) 0 far) (szw u2) 1 (fd + 1)) (szw u2) 2 q) (szw u2) 2 = q := rd_up_eq ⟨rfl, rfl⟩
    have wk : kdw (upw (upw (upw (alw u2 3 0 (fun _ => 0)) (szw u2) 0 far) (szw u2) 1 (fd + 1)) (szw u2) 2 q) (szw u2) = 3 := by rw [kd_up, kd_up, kd_up, kd_al, if_pos rfl]
    generalize upw (upw (upw (alw u2 3 0 (fun _ => 0)) (szw u2) 0 far) (szw u2) 1 (fd + 1)) (szw u2) 2 q = u3 at *
    generalize szw u2 = y at *
    have hWy : WV u3 y := ⟨⟨hs0', wk⟩, by omega, by omega, by omega⟩
    have hV3 : XI E xo b u3 := hV.gr hN (fun _ z => z.elim) (fun _ => id) (fun _ => id)
    have hg3 := hp2.gr hN (fun _ => id) (fun _ => id)
    have hwv3 : ∀ r, S r → WV u3 r ∧ rkW u3 r = rkW w r ∧ ∀ i, rdw u3 r i = rdw w r i := fun r hr => by
      have h1 := hwv r hr
      have h2 := h1.1.nop hN
      exact ⟨h2.1, h2.2.1.trans h1.2.1, fun i => (h2.2.2 i).trans (h1.2.2 i)⟩
    have hka3 : kdw u3 (rdw u3 (b + 15) 0) = qk b := hg3.1.2.1.2.1
    have h153 : kdw u3 (b + 15) = 9 := hV3.kk 15 (by decide) (show xK b 15 = 9 from rfl)
    have hyS : ¬ S y := fun z => by have := (hwv y z).1.1.2; omega
    have hT : ∀ r, (S r ∨ r = y) → WV u3 r ∧ ¬ qP E u3 (b + 15) r := fun r hr => by
      have h1 : WV u3 r := by
        rcases hr with z | z
        · exact (hwv3 r z).1
        · rw [z]; exact hWy
      exact ⟨h1, qP_w hka3 h153 h1.1.2⟩
    have hln3 : lnw u3 (rdw u3 (b + 15) 0) = lnw w (rdw w (b + 15) 0) := by
      rw [hg3.2, hN.ln (by have h1 := hp2.2.1.2.1; omega)]; exact hln
    have hNN : s = lnw u3 (rdw u3 (b + 15) 0) → ((nwS w b s : Nat) : Int) = pqN s := fun z => by
      rw [hln3] at z
      unfold nwS
      rw [if_neg (by omega)]
      have : 0 ≤ pqN s := by unfold pqN; split <;> omega
      omega
    refine gV1I (pc' := 47) hX dX1_offer_44 ml_X1_252 gc_J9 (by have := hV.b0; omega) h153 (c_j_offer (N := nwS w b s) (hg3.1.rk (rk' := rkW u3) (fun r hr => (hwv3 r hr).2.1)) ml_J9_149_X2 gc_X2 (by have := hV.b0; omega) (hV3.kk 16 (by decide) (show xK b 16 = 5 from rfl)) (by omega) hyS hs0' (fun r hr => okr_k (hT r hr).1.1.2 (by omega)) (CMG_W (by have := hV.b0; omega) (hV3.kk 16 (by decide) (show xK b 16 = 5 from rfl)) hT) hNN) (Nat.le_of_ble_eq_true rfl) (by decide) (by omega) rfl (fun r44 w44 q44 => ?_)
    obtain ⟨rfl, hPQ4, hG4, hc4⟩ := q44
    have hx4 := qP_x hV3 hka3 hG4
    have hb3 : (eB E : Int) ≤ rdw u3 (b + 15) 0 := hg3.1.2.1.1
    have hV4 : XI E xo b w44 := hV3.zq (hG4.wk (fun a i z => qP_zq hka3 hb3 z))
    have hGz : Gr (ZQ E xo b w) w w44 := ZQ.tr (hF2.trN hN (fun _ _ _ z => z.elim)) (hG4.wk (fun a i z => qP_zq hka3 hb3 z))
    have hwv4 : ∀ r, (S r ∨ r = y) → WV w44 r ∧ rkW w44 r = rkW u3 r ∧ ∀ i, rdw w44 r i = rdw u3 r i := fun r hr => (hT r hr).1.gr hG4 (fun _ => (hT r hr).2)
    have hA4 : ∀ j, rdw w44 (b + 12) j = if j = q ∧ far < rdw w (b + 12) q then far else rdw w (b + 12) j := fun j => by rw [hx4.2 12 j (by omega) (by omega) (by omega) (by omega), hV.bk (by omega) hN]; exact hA j
    have hB4 : ∀ k j : Int, k ≠ 12 → 0 ≤ k → k ≤ 14 → rdw w44 (b + k) j = rdw w (b + k) j := fun k j hk k0 k1 => by rw [hx4.2 k j (by omega) (by omega) (by omega) (by omega), hV.bk (by omega) hN]; exact hB k j hk k0
    rw [hln3] at hc4
    have hS4 : QS E xo b sz w44 (s + 1) (fun r => S r ∨ r = y) (fd + 1) := by
      refine ⟨hPQ4.rk (fun r hr => (hwv4 r hr).2.1), fun r hr => ⟨(hwv4 r hr).1, ?_, ?_⟩, ⟨?_, by omega, by omega, by omega⟩, ?_, fun j j0 j1 => ?_⟩
      · rw [(hwv4 r hr).2.2]
        rcases hr with z | z
        · rw [(hwv3 r z).2.2]; exact (hM r z).2.1
        · rw [z, w2']; exact hq.2
      · rw [(hwv4 r hr).2.2, (hwv4 r hr).2.2, hA4]
        rcases hr with z | z
        · rw [(hwv3 r z).2.2, (hwv3 r z).2.2]
          have h1 := (hM r z).2.2
          split
          · rename_i hc
            rw [hc.1] at h1; omega
          · exact h1
        · rw [z, w2', w0', if_pos ⟨rfl, by omega⟩]; exact Int.le_refl _
      · rw [hx4.1, hN.rd (by rw [hV.hk]; decide) id]; exact h162
      · rw [hc4]; exact hgs.1
      · rw [hA4, hB4 14 j (by omega) (by omega) (by omega)]
        have h1 := hD j j0 j1
        refine ⟨h1.1, ?_, ?_⟩ <;> split <;> omega
    have hO4 : QO b sz w44 (fun r => S r ∨ r = y) (-1) := fun j j0 j1 jx e1 e2 => by
      rw [hB4 14 j (by omega) (by omega) (by omega)] at e1
      by_cases hj : j = q
      · refine ⟨y, Or.inr rfl, ?_, ?_⟩
        · rw [(hwv4 y (Or.inr rfl)).2.2, w2', hj]
        · rw [(hwv4 y (Or.inr rfl)).2.2, w0', hA4, if_pos ⟨hj, by omega⟩]
      · rw [hA4, if_neg (fun z => hj z.1)] at e2
        obtain ⟨r, hr, r1, r2⟩ := hO j j0 j1 jx e1 e2
        refine ⟨r, Or.inl hr, ?_, ?_⟩
        · rw [(hwv4 r (Or.inl hr)).2.2, (hwv3 r hr).2.2]; exact r1
        · rw [(hwv4 r (Or.inl hr)).2.2, (hwv3 r hr).2.2, hA4, if_neg (fun z => hj z.1)]; exact r2
    refine g_pop (pc' := 48) hX dX1_offer_47 (vI_cat _) rfl ?_
    first
      | exact g_retU hX hF dX1_offer_48 ⟨hV4, hGz, ⟨s + 1, _, fd + 1, hS4, hO4, by omega, by omega, fun _ => by rw [hc4]; unfold nwS; exact hgs.2⟩, hA4, fun j => hB4 13 j (by omega) (by omega) (by omega), fun j => hB4 14 j (by omega) (by omega) (by omega)⟩
      | exact g_retU hX hF dX1_offer_48 ⟨hX0, Gr.rf, ⟨s, S, fd, hS, hO, by omega, by omega, fun z => absurd z (by omega)⟩, hA0, fun j => rfl, fun j => rfl⟩

end S2S
