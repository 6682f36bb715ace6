/-! THE ENUMERATION: begun (by gen/spec_s16.py) -/
set_option maxRecDepth 100000
set_option maxHeartbeats 8000000
theorem fc_s : ∀ k < 7, fc (k + 1) = fc k * (k + 1) := by decide +kernel
theorem wtN_6 : ∀ k < 7, wtN k ≤ 1957 := by decide +kernel
/-- the component but for the enumeration's numbers -/
def XB (E : Ev) (xo b n m : Int) (h : Int → Int → Int) (sn sm : Int) (sh : Int → Int → Int) (w : Wd) : Prop :=
  XI E xo b w ∧ OW E w ∧ XT E xo n m h sn sm sh w ∧ XQ E b w ∧ ∃ (s : Int) (S : Int → Prop) (rk : Int → Int), PQ E w (b + 21) (b + 22) s S rk ∧ capP (lnw w (rdw w (b + 21) 0))
section S16S
variable {X : Cx} {bc bs pc : Nat} {lv : List (Nat × Int)} {st : List Value} {E : Ev} {w w0 u u' : Wd} {P : Int → Int → Prop} {T r c n m sn sm l i j k v a z xo b it x y sz fd far q row base r0 p : Int} {h h' sh C C0 R : Int → Int → Int} {f g : Int → Int} {e : En} {S : Int → Prop} {s N : Nat} {π : List Nat} {L : List Int}
theorem XX.xb (H : XX E xo b n m h sn sm sh e w) : XB E xo b n m h sn sm sh w := ⟨H.1, H.2.1, H.2.2.1, H.2.2.2.1, H.2.2.2.2.pq⟩
theorem XB.gr (H : XB E xo b n m h sn sm sh w) (hG : Gr P w u) (hP : ∀ a i, P a i → (a = xo ∧ 22 ≤ i ∧ i ≤ 25) ∨ (b + 25 ≤ a ∧ a ≤ b + 31)) : XB E xo b n m h sn sm sh u := by
  obtain ⟨hX, hO, hT, hQ, s, S, rk, hp, hc⟩ := H
  have hb := hX.hbb
  have hxo := hX.hb
  have hx1 := hX.hk
  have hxb := hX.1.2.1
  have nk : ∀ a i (c : Nat), kdw w a = c → c ≠ 1 → c ≠ 50 → ¬ P a i := fun a i c hc c1 c2 z => by
    rcases hP a i z with y | y
    · rw [y.1, hx1] at hc; omega
    · have h3 := hX.2.1 (a - b) (by omega) (by omega)
      rw [show b + (a - b) = a by omega, hc] at h3
      unfold xK qk pk at h3
      (repeat' split at h3) <;> omega
  have hka : kdw w (rdw w (b + 21) 0) = pk b := hp.2.1.2.1
  have g := hp.gr hG (fun i z => by have := hP _ _ z; omega) (fun i => nk _ i _ hka (by unfold pk; omega) (by unfold pk; omega))
  refine ⟨hX.gr hG (fun i z => by have := hP _ _ z; omega) (fun i z => by have := hP _ _ z; omega) (fun i z => by have := hP _ _ z; omega), hO.gr hG (fun a i z => by have := hP _ _ z; omega), hT.gr hX hO hG (fun a i z => ⟨by have := hP _ _ z; omega, Or.inl ?_⟩) (fun i z => by have := hP _ _ z; omega), hQ.gr hG (fun i z => by have := hP _ _ z; omega) (fun a i hk => nk a i _ hk (by unfold qk; omega) (by unfold qk; omega)) (fun a i hk => nk a i _ hk (by omega) (by omega)), s, S, rk, g.1, by rw [g.2, hG.ln (by rw [hka]; unfold pk; omega)]; exact hc⟩
  rcases hP a i z with y | y
  · exact Or.inl y.1
  · exact Or.inr (Or.inl (by omega))
theorem XB.zn (H : XB E xo b n m h sn sm sh w) (hG : Gr (ZN E xo b w) w u) : (XI E xo b u ∧ OW E u ∧ XT E xo n m h sn sm sh u ∧ XQ E b u) ∧ Gr (fun a _ => ZX xo b w a) w u := by
  have e0 : XX E xo b n m h sn sm sh ((0, 0, 0, fun _ => 0) : En) w → True := fun _ => trivial
  obtain ⟨hX, hO, hT, hQ, -⟩ := H
  have h := ZN.xxB hX hO hT hQ hG
  exact ⟨⟨h.1, h.2.1, h.2.2.1, h.2.2.2.1⟩, h.2.2.2.2⟩
theorem c_k_cancelQ (hX0 : XI E xo b w) (hE : ∃ (s : Int) (S : Int → Prop) (rk : Int → Int), PQ E w (b + 21) (b + 22) s S rk ∧ capP (lnw w (rdw w (b + 21) 0))) : Call E mX1_cancel 1 0 0 [vR xo] w (qU (fun w' => Gr (ZC E xo b w) w w' ∧ (∀ (n2 : Int) (C2 : Int → Int → Int) (x : En), XE E xo b n2 C2 x.off w') ∧ (∃ rk : Int → Int, PQ E w' (b + 21) (b + 22) 0 (fun _ => False) rk) ∧ capP (lnw w' (rdw w' (b + 21) 0)) ∧ rdw w' xo 24 = 0)) := by
  refine call_of (av := [(1, xo)]) (by decide +kernel) rfl (Nat.le_of_ble_eq_true rfl) ?_
  intro X hX hF hname
  show GG X 0 0 w 0 [(1, xo)] []
  have hb0 := hX0.1.2.1
  have hbz := hX0.b0
  have h21 : rdw w xo 20 = b + 21 := hX0.f 20 (by omega) rfl
  have hk21 : kdw w (b + 21) = 9 := hX0.kk 21 (by omega) rfl
  have hxk := hX0.hk
  obtain ⟨s, S, rk, hQ, hcap⟩ := hE
  have hka : kdw w (rdw w (b + 21) 0) = pk b := hQ.2.1.2.1
  have hne : rdw w (b + 21) 0 ≠ xo := kd_ne hka hxk (by unfold pk; omega)
  have hF3 : Fr (fun a i => a = xo ∧ 23 ≤ i ∧ i ≤ 25) w (upw (upw (upw w xo 23 0) xo 24 0) xo 25 0) := ((Fr.rf.up (by omega)).up (by omega)).up (by omega)
  have hQ3 := hQ.gr hF3.gr (fun i z => by omega) (fun i z => hne z.1)
  refine g_aload_n (pc' := 1) hX dX1_cancel_0 rfl rfl ?_
  refine g_iconst (pc' := 2) hX dX1_cancel_1 rfl ?_
  refine pf_X1_147 (pc' := 5) hX dX1_cancel_2 (by omega) hX0.hb hX0.hk rfl ?_
  skip
  refine g_aload_n (pc' := 6) hX dX1_cancel_5 rfl rfl ?_
  refine g_iconst (pc' := 7) hX dX1_cancel_6 rfl ?_
  refine pf_X1_151 (pc' := 10) hX dX1_cancel_7 hX0.hb hX0.hk rfl ?_
  skip
  refine g_aload_n (pc' := 11) hX dX1_cancel_10 rfl rfl ?_
  refine g_iconst (pc' := 12) hX dX1_cancel_11 rfl ?_
  refine pf_X1_154 (pc' := 15) hX dX1_cancel_12 hX0.hb hX0.hk rfl ?_
  skip
  refine g_aload_n (pc' := 16) hX dX1_cancel_15 rfl rfl ?_
  refine gf_X1_85 (pc' := 19) hX dX1_cancel_16 hX0.h0 hX0.hk rfl ?_
  repeat rw [rd_up_ne (by omega)]
  rw [h21]
  refine gV0U0 (pc' := 22) hX dX1_cancel_19 ml_X1_157 gc_J9 (by omega) (by rw [kd_up, kd_up, kd_up]; exact hk21) (c_j_clear hQ3.1) (Nat.le_of_ble_eq_true rfl) (by decide) rfl (fun w19 q19 => ?_)
  have hcapn : capP (lnw w19 (rdw w19 (b + 21) 0)) := by
    rw [q19.2.1, hQ3.2, q19.2.2.gr.ln (by rw [kd_up, kd_up, kd_up, hka]; unfold pk; omega)]
    exact hcap
  have hnx : ¬ qP E (upw (upw (upw w xo 23 0) xo 24 0) xo 25 0) (b + 21) xo := fun z => by
    rcases z with z | z
    · omega
    · rw [hQ3.2] at z; exact hne z.symm
  refine g_retU hX hF dX1_cancel_22 ⟨?_, fun n2 C2 x => Or.inl ⟨rfl, ?_, 0, _, _, q19.1, hcapn⟩, ⟨_, q19.1⟩, hcapn, ?_⟩
  · refine (hF3.gr.wk (fun a i z => Or.inl z)).tr (q19.2.2.gr.wk (fun a i z => ?_))
    rcases z with z | z
    · exact Or.inr (Or.inl z)
    · refine Or.inr (Or.inr ?_)
      rw [z, hQ3.2]; exact ⟨hka, hQ.2.1.1⟩
  · rw [q19.2.2.rd _ _ hnx, rd_up_ne (by omega), rd_up_ne (by omega), rd_up_eq ⟨rfl, rfl⟩]
  · rw [q19.2.2.rd _ _ hnx, rd_up_ne (by omega), rd_up_eq ⟨rfl, rfl⟩]

theorem c_o_startEnumeration (hH : XX E xo b n m h sn sm sh e w) : Call E mX1_startEnumeration 12 690 4670 [vR xo] w (qC (if 6 < n then 3 else 0) ((fc n.toNat : Nat) : Int) (fun w' => XX E xo b n m h sn sm sh (0, -1, 0, e.cu) w' ∧ Gr (fun a _ => ZX xo b w a) w w') w) := by
  refine call_of (av := [(1, xo)]) (by decide +kernel) rfl (Nat.le_of_ble_eq_true rfl) ?_
  intro X hX hF hname
  show GG X 690 4670 w 0 [(1, xo), (9, 0), (9, 0), (9, 0)] []
  have hS := SB.rf hH
  have hV := hH.1
  have hn := hH.2.2.1.1.2.1
  have hnb : 1 ≤ n ∧ n ≤ 7 := by omega
  have hC := hH.2.2.1.bCn
  have hf0 := hH.2.2.1.1.1.1
  refine g_aload_n (pc' := 1) hX dX1_startEnumeration_0 rfl rfl ?_
  refine gf_X1_7 (pc' := 4) hX dX1_startEnumeration_1 hV.h0 hV.hk rfl ?_
  rw [hf0]
  refine g_bipush (pc' := 6) hX dX1_startEnumeration_4 rfl rfl ?_
  refine g_icmp_ge (pc' := 9) (tgt := 13) hX dX1_startEnumeration_6 (by decide) rfl (by omega) (by omega) (fun h6 => ?_) (fun h6 => ?_)
  · skip
    refine g_iconst (pc' := 14) hX dX1_startEnumeration_13 rfl ?_
    refine gS1UX (pc' := 17) hX dX1_startEnumeration_14 ml_X1_209 (c_k_needState (by omega)) (Nat.le_of_ble_eq_true rfl) (by decide) ⟨by omega, by omega⟩ rfl (fun w2 q => absurd q.1 (by decide)) (fun k2 w2 hk0 hq => ?_)
    obtain ⟨rfl, hz14, hG14⟩ := hq
    exact g_outX hX hF hk0 ⟨by (repeat' split) <;> omega, hG14⟩
  · skip
    refine g_iconst (pc' := 10) hX dX1_startEnumeration_9 rfl ?_
    refine g_goto (tgt := 14) hX dX1_startEnumeration_10 (by decide) ?_
    refine gS1UX (pc' := 17) hX dX1_startEnumeration_14 ml_X1_209 (c_k_needState (by omega)) (Nat.le_of_ble_eq_true rfl) (by decide) ⟨by omega, by omega⟩ rfl (fun w14 q14 => ?_) (fun k2 w2 hk0 hq => absurd hq.2.1 (by decide))
    obtain ⟨-, hw14⟩ := q14
    rw [hw14]
    refine g_aload_n (pc' := 18) hX dX1_startEnumeration_17 rfl rfl ?_
    refine gV0U0 (pc' := 21) hX dX1_startEnumeration_18 ml_X1_284 gc_X1 hV.h0 hV.hk (c_s_load hS.1) (Nat.le_of_ble_eq_true rfl) (by decide) rfl (fun w18 q18 => ?_)
    obtain ⟨-, hFl, h6, hA⟩ := q18
    have hS := hS.ld hFl
    have hV := hS.1.1
    refine g_aload_n (pc' := 22) hX dX1_startEnumeration_21 rfl rfl ?_
    refine g_aload_n (pc' := 23) hX dX1_startEnumeration_22 rfl rfl ?_
    refine gV0I (pc' := 26) hX dX1_startEnumeration_23 ml_X1_286 gc_X1 hV.h0 hV.hk (c_s_solve (n := n) hS.1.1 hS.1.2.2.2.1 h6 hnb hA hC.bD) (Nat.le_of_ble_eq_true rfl) (by decide) ⟨by omega, by omega⟩ rfl (fun r23 w23 q23 => ?_)
    obtain ⟨-, hGs, hQs, hOP, hrs, hHU⟩ := q23
    have hA5 : ∀ i j : Int, 0 ≤ i → i < n → 0 ≤ j → j < n → rdw w23 (b + 1 + i) j = tC m h i j := fun i j i0 i1 j0 j1 => (ZU.ck hV hGs (by omega) j).trans (hA i j i0 i1 j0 j1)
    have hS := hS.zu hGs hQs
    have hV := hS.1.1
    have hn6 : n ≤ 6 := by omega
    have hub : ∀ i j : Int, 0 ≤ i → i < n → 0 ≤ j → j < n → 0 ≤ tC m h i j - rdw w23 (b + 8) i - rdw w23 (b + 9) j ∧ tC m h i j - rdw w23 (b + 8) i - rdw w23 (b + 9) j ≤ 100000 := fun i j i0 i1 j0 j1 => by
      have t1 := hOP.1 i j i0 (by omega) j0 (by omega)
      have t2 := hC i j i0 i1 j0 j1
      have t3 := (hHU.2.1 j j0 j1).1
      have t4 := (hHU.2.2.1 i i0 i1).2.2.2
      omega
    refine pf_X1_316 (pc' := 29) hX dX1_startEnumeration_26 hV.hb hV.hk rfl ?_
    have hB1 : XB E xo b n m h sn sm sh (upw w23 xo 22 r23) := hS.1.xb.gr (P := fun a k => a = xo ∧ k = 22) (Gr.rf.up ⟨rfl, rfl⟩) (fun a i z => Or.inl (by omega))
    have hG1 : Gr (fun a _ => ZX xo b w a) w (upw w23 xo 22 r23) := (hS.gx hH.1).up (Or.inl (Or.inl rfl))
    have hxb := hV.1.2.1
    have h22 : rdw (upw w23 xo 22 r23) xo 22 = r23 := rd_up_eq ⟨rfl, rfl⟩
    have hk1 : ∀ k q : Int, 0 ≤ k → k ≤ 14 → rdw (upw w23 xo 22 r23) (b + k) q = rdw w23 (b + k) q := fun k q k0 k1 => rd_up_ne (by omega)
    generalize upw w23 xo 22 r23 = u1 at *
    have hV := hB1.1
    have hf0 := hB1.2.2.1.1.1.1
    refine g_iconst (pc' := 30) hX dX1_startEnumeration_29 rfl ?_
    refine g_istore_n_1 (pc' := 31) hX dX1_startEnumeration_30 (by decide) rfl rfl ?_
    refine g_iconst (pc' := 32) hX dX1_startEnumeration_31 rfl ?_
    refine g_istore_n_2 (pc' := 33) hX dX1_startEnumeration_32 (by decide) rfl rfl ?_
    have loop : ∀ (f : Nat) (i t : Int) (u : Wd) (x3 : Nat × Int), 0 ≤ i → i ≤ n → t = (fc i.toNat : Nat) → XB E xo b n m h sn sm sh u → Gr (fun a _ => ZX xo b w a) w u → rdw u xo 22 = r23 → (∀ k q : Int, 0 ≤ k → k ≤ 14 → rdw u (b + k) q = rdw w23 (b + k) q) → (∀ p q : Int, 0 ≤ p → p < i → 0 ≤ q → q < n → rdw u (b + 25 + p) q = (tC m h p q - rdw w23 (b + 8) p - rdw w23 (b + 9) q)) → n < i + f → GG X 3 9 u 33 [(1, xo), (0, t), (0, i), x3] [] := by
      intro f
      induction f with
      | zero => intro i t u x3 i0 i1 ht hB hG h22 hk hA hf; exact absurd hf (by omega)
      | succ f ih =>
        intro i t u x3 i0 i1 ht hB hG h22 hk hA hf
        have hV := hB.1
        have hf0 := hB.2.2.1.1.1.1
        refine g_iload_n (pc' := 34) hX dX1_startEnumeration_33 rfl rfl ?_
        refine g_aload_n (pc' := 35) hX dX1_startEnumeration_34 rfl rfl ?_
        refine gf_X1_7 (pc' := 38) hX dX1_startEnumeration_35 hV.h0 hV.hk rfl ?_
        rw [hf0]
        refine g_icmp_ge (pc' := 41) (tgt := 83) hX dX1_startEnumeration_38 (by decide) rfl (by omega) (by omega) (fun h38 => ?_) (fun h38 => ?_)
        · skip
          refine g_aload_n (pc' := 84) hX dX1_startEnumeration_83 rfl rfl ?_
          refine gV0U0 (pc' := 87) hX dX1_startEnumeration_84 ml_X1_166 gc_X1 hV.h0 hV.hk (c_k_cancelQ hB.1 hB.2.2.2.2) (Nat.le_of_ble_eq_true rfl) (by decide) rfl (fun w84 q84 => ?_)
          obtain ⟨hGc, hEc, ⟨rk0, hPQ0⟩, hcap0, h24⟩ := q84
          have hXc : XX E xo b n m h sn sm sh e.off w84 := XX.can hB.1 hB.2.1 hB.2.2.1 hB.2.2.2.1 hGc hEc
          have hGx : Gr (fun a _ => ZX xo b w a) w w84 := GX.tr hG (hGc.wk (fun a i z => z.zx hB.1))
          have hxb := hV.1.2.1
          have nc : ∀ k i : Int, 0 ≤ k → k ≤ 31 → k ≠ 21 → k ≠ 23 → ¬ ZC E xo b u (b + k) i := fun k i k0 k1 n1 n2 z => by
            rcases z with z | z | z
            · omega
            · omega
            · have h1 := z.1
              have hb0 := hB.1.b0
              rw [hB.1.2.1 k k0 k1] at h1
              unfold xK qk pk at h1
              (repeat' split at h1) <;> omega
          have h22c : rdw w84 xo 22 = r23 := (hGc.rd (by rw [hB.1.hk]; decide) (fun z => by
            rcases z with z | z | z
            · omega
            · omega
            · have := hB.1.hk; rw [this] at z; unfold pk at z; omega)).trans h22
          have hRc : ∀ p q : Int, 0 ≤ p → p < n → 0 ≤ q → q < n → rdw w84 (b + 25 + p) q = (tC m h p q - rdw w23 (b + 8) p - rdw w23 (b + 9) q) := fun p q p0 p1 q0 q1 => by
            have e1 := nc (25 + p) q (by omega) (by omega) (by omega) (by omega)
            rw [show b + (25 + p) = b + 25 + p by omega] at e1
            rw [hGc.rd (by rw [hB.1.rk (by omega)]; decide) e1]
            exact hA p q p0 (by omega) q0 q1
          have hV := hXc.1
          refine g_aload_n (pc' := 88) hX dX1_startEnumeration_87 rfl rfl ?_
          refine g_iconst (pc' := 89) hX dX1_startEnumeration_88 rfl ?_
          refine pf_X1_147 (pc' := 92) hX dX1_startEnumeration_89 (Or.inr rfl) hV.hb hV.hk rfl ?_
          have hB9 : XB E xo b n m h sn sm sh (upw w84 xo 23 1) := hXc.xb.gr (P := fun a k => a = xo ∧ k = 23) (Gr.rf.up ⟨rfl, rfl⟩) (fun a i z => Or.inl (by omega))
          have hG9 : Gr (fun a k => a = xo ∧ k = 23) w84 (upw w84 xo 23 1) := Gr.rf.up ⟨rfl, rfl⟩
          have h23 : rdw (upw w84 xo 23 1) xo 23 = 1 := rd_up_eq ⟨rfl, rfl⟩
          have hka84 := hPQ0.2.1.2.1
          have hPQ9 := hPQ0.gr hG9 (fun i z => by omega) (fun i z => by
            have h2 := hXc.1.hk
            rw [z.1, h2] at hka84; omega)
          generalize upw w84 xo 23 1 = u9 at *
          have hV := hB9.1
          refine g_aload_n (pc' := 93) hX dX1_startEnumeration_92 rfl rfl ?_
          refine gf_X1_85 (pc' := 96) hX dX1_startEnumeration_93 hV.h0 hV.hk rfl ?_
          first
            | rw [hV.f 20 (by decide) (show xF 20 = 21 from rfl)]
            | (repeat rw [rd_up_ne (by omega)]); rw [hV.f 20 (by decide) (show xF 20 = 21 from rfl)]
          refine g_fr (fun hfr hs0' => ?_)
          refine g_szB hX (fun hszB => ?_)
          refine g_new (pc' := 99) (fun _ => 0) hX dX1_startEnumeration_96 gc_X6 q1450 q1451 q92 (by decide) (by omega) (by omega) rfl ?_
          have hks : kdw u9 (szw u9) = 0 := hfr _ (Int.le_refl _)
          have hN1 : Gr NoP u9 (alw u9 4 0 (fun _ => 0)) := Gr.rf.al hfr
          have hk2 : kdw (alw u9 4 0 (fun _ => 0)) (szw u9) = 4 := by rw [kd_al, if_pos rfl]
          generalize alw u9 4 0 (fun _ => 0) = u2 at *
          generalize szw u9 = y at *
          refine g_dup (pc' := 100) hX dX1_startEnumeration_99 (vR_cat _) rfl ?_
          refine g_iconst (pc' := 101) hX dX1_startEnumeration_100 rfl ?_
          refine g_iconst (pc' := 102) hX dX1_startEnumeration_101 rfl ?_
          refine g_iconst (pc' := 103) hX dX1_startEnumeration_102 rfl ?_
          refine g_iconst (pc' := 104) hX dX1_startEnumeration_103 rfl ?_
          refine gI4EU0 (pc' := 107) hX dX1_startEnumeration_104 ml_X1_321 hs0' (c_k_part hszB hk2) (Nat.le_of_ble_eq_true rfl) (by decide) rfl ?_
          have hNn := (((hN1.upN (i := 0) (x := 0) hks).upN (i := 1) (x := 0) hks).upN (i := 2) (x := 0) hks).upN (i := 3) (x := 0) hks
          have y0 : rdw (upw (upw (upw (upw u2 y 0 0) y 1 0) y 2 0) y 3 0) y 0 = 0 := by rw [rd_up_ne (by omega), rd_up_ne (by omega), rd_up_ne (by omega), rd_up_eq ⟨rfl, rfl⟩]
          have y1 : rdw (upw (upw (upw (upw u2 y 0 0) y 1 0) y 2 0) y 3 0) y 1 = 0 := by rw [rd_up_ne (by omega), rd_up_ne (by omega), rd_up_eq ⟨rfl, rfl⟩]
          have y2 : rdw (upw (upw (upw (upw u2 y 0 0) y 1 0) y 2 0) y 3 0) y 2 = 0 := by rw [rd_up_ne (by omega), rd_up_eq ⟨rfl, rfl⟩]
          have y3 : rdw (upw (upw (upw (upw u2 y 0 0) y 1 0) y 2 0) y 3 0) y 3 = 0 := rd_up_eq ⟨rfl, rfl⟩
          have yk : kdw (upw (upw (upw (upw u2 y 0 0) y 1 0) y 2 0) y 3 0) y = 4 := by rw [kd_up, kd_up, kd_up, kd_up]; exact hk2
          generalize upw (upw (upw (upw u2 y 0 0) y 1 0) y 2 0) y 3 0 = u3 at *
          have hB3 : XB E xo b n m h sn sm sh u3 := hB9.gr hNn (fun _ _ z => z.elim)
          have hV3 := hB3.1
          have hPy : PV4 u3 y := ⟨⟨hs0', yk⟩, by omega, by omega, by omega, by omega⟩
          have hg3 := hPQ9.1.gr hNn (fun _ => id) (fun _ => id)
          have hka3 : kdw u3 (rdw u3 (b + 21) 0) = pk b := hg3.1.2.1.2.1
          have h213 : kdw u3 (b + 21) = 9 := hV3.kk 21 (by decide) (show xK b 21 = 9 from rfl)
          have hT : ∀ r, (False ∨ r = y) → PV4 u3 r ∧ ¬ qP E u3 (b + 21) r := fun r hr => by
            have h0 : r = y := Or.elim hr (fun z => z.elim) id
            rw [h0]
            refine ⟨hPy, ?_⟩
            rintro (z | z)
            · rw [z, h213] at yk; omega
            · rw [z, hka3] at yk; unfold pk at yk; omega
          have hln3 : lnw u3 (rdw u3 (b + 21) 0) = lnw w84 (rdw w84 (b + 21) 0) := by
            rw [hg3.2, hNn.ln (by have h1 := hPQ9.1.2.1.2.1; omega), hPQ9.2, hG9.ln (by omega)]
          have hc11 : 11 ≤ lnw w84 (rdw w84 (b + 21) 0) := by unfold capP at hcap0; omega
          refine gV1I (pc' := 110) hX dX1_startEnumeration_107 ml_X1_252 gc_J9 (by have := hV3.b0; omega) h213 (c_j_offer (N := 0) (hg3.1.rk (rk' := rkP u3) (fun r hr => hr.elim)) ml_J9_149_X3 gc_X3 (by have := hV3.b0; omega) (hV3.kk 22 (by decide) (show xK b 22 = 6 from rfl)) (by omega) (fun z => z) hs0' (fun r hr => okr_k (hT r hr).1.1.2 (by omega)) (CMG_P (by have := hV3.b0; omega) (hV3.kk 22 (by decide) (show xK b 22 = 6 from rfl)) hT) (fun z => by omega)) (Nat.le_of_ble_eq_true rfl) (by decide) ⟨by omega, by omega⟩ rfl (fun r107 w107 q107 => ?_)
          obtain ⟨rfl, hPQ4, hG4, hc4⟩ := q107
          have hb3 : (eB E : Int) ≤ rdw u3 (b + 21) 0 := hg3.1.2.1.1
          have hZ3 : Gr (ZN E xo b u3) u3 w107 := hG4.wk (fun a i z => by
            rcases z with z | z
            · exact Or.inr (Or.inl z)
            · exact Or.inr (Or.inr ⟨by rw [z]; exact hka3, by rw [z]; exact hb3⟩))
          have hx0 : XX E xo b n m h sn sm sh e.off w84 := hXc
          have hset : (fun r => False ∨ r = y) = (fun r => r ∈ [y]) := funext (fun r => propext ⟨fun z => Or.elim z (fun z => z.elim) (fun z => by rw [z]; exact List.mem_cons_self), fun z => Or.inr (List.mem_singleton.mp z)⟩)
          have hpy4 := hPy.gr hG4 (fun _ => (hT y (Or.inr rfl)).2)
          have hPQ4 := hPQ4.rk (rk' := rkP w107) (fun r hr => by rw [Or.elim hr (fun z => z.elim) id]; exact hpy4.2.1)
          rw [hset] at hPQ4
          have hcap4 : capP (lnw w107 (rdw w107 (b + 21) 0)) := by
            rw [hc4, hln3, if_pos (by omega)]; exact hcap0
          have hx4 : ∀ i, rdw w107 xo i = rdw u9 xo i := fun i => by
            rw [hG4.rd (by rw [hV3.hk]; decide) (fun z => by
              rcases z with z | z
              · have := hV3.1.2.1; omega
              · have h1 := hV3.hk; rw [z, hka3] at h1; unfold pk at h1; omega), hNn.rd (by rw [hB9.1.hk]; decide) id]
          have h9x : ∀ i, i ≠ 23 → rdw u9 xo i = rdw w84 xo i := fun i hi => hG9.rd (by rw [hXc.1.hk]; decide) (fun z => hi z.2)
          have hR4 : ∀ p q : Int, 0 ≤ p → p < n → 0 ≤ q → q < n → rdw w107 (b + 25 + p) q = (tC m h p q - rdw w23 (b + 8) p - rdw w23 (b + 9) q) := fun p q p0 p1 q0 q1 => by
            have k9 : kdw u9 (b + 25 + p) = 50 := hB9.1.rk (by omega)
            rw [ZN.rd hV3 hZ3 p0 (by omega), hNn.rd (by omega) id, hG9.rd (by rw [hXc.1.rk (by omega)]; decide) (fun z => by have := hXc.1.1.2.1; omega)]
            exact hRc p q p0 p1 q0 q1
          have hPP4 : PP w107 b n.toNat y [] := ⟨hpy4.1, ⟨by rw [hpy4.2.2]; exact y1, Nat.zero_le _, List.nodup_nil, fun x hx => absurd hx List.not_mem_nil⟩, by rw [hpy4.2.2]; exact y0, by rw [hpy4.2.2]; exact y2, by rw [hpy4.2.2]; exact y3⟩
          have hbd := OB_b (n := n) (m := m) (h := h) hnb hC
          have hmem : ∀ t, t < (pmN n.toNat).length → (pmN n.toNat).getD t [] ∈ pmN n.toNat := fun t ht => by
            rw [List.getD_eq_getElem?_getD, List.getElem?_eq_getElem ht]; exact List.getElem_mem _
          have hEN : ENL E xo b n (tC m h) (0, -1, 0, e.cu) [y] w107 := by
            refine ⟨hPQ4, List.nodup_cons.mpr ⟨List.not_mem_nil, List.nodup_nil⟩, hcap4, fun i j i0 i1 j0 j1 => by rw [hR4 i j i0 i1 j0 j1]; exact hub i j i0 i1 j0 j1, fun σ hσ => ?_, fun r hr => ⟨[], by rw [List.mem_singleton.mp hr]; exact hPP4⟩, fun t ht => ⟨fun _ => ⟨y, List.mem_cons_self, [], hPP4, List.nil_prefix⟩, fun _ => Or.inl ?_⟩, fun r hr r' hr' _ _ _ _ _ _ _ => by rw [List.mem_singleton.mp hr, List.mem_singleton.mp hr'], ?_, ?_, fun z => by have z1 : (1 : Int) ≤ 0 := z; omega⟩
            · rw [pm_red (rdw w23 (b + 8)) (rdw w23 (b + 9)) hσ, hx4 22, h9x 22 (by omega), h22c, hrs]
              have e1 : ps (fun i j => rdw w107 (b + 25 + i) j) 0 σ = ps (fun a c => tC m h a c - rdw w23 (b + 8) a - rdw w23 (b + 9) c) 0 σ := ps_cgp hσ (fun i j i0 i1 j0 j1 => hR4 i j i0 (by omega) j0 (by omega))
              rw [e1]; omega
            · have := (hbd _ (hmem t ht)).1
              show (-1 : Int) < _
              omega
            · show wtN (n.toNat - (rdw w107 y 1).toNat) + 0 ≤ 1957
              rw [hpy4.2.2, y1]
              have := wtN_6 n.toNat (by omega)
              exact this
            · show (0 : Int) = _
              rw [List.countP_eq_zero.mpr (fun t ht => ?_)]
              · rfl
              · refine (fun z => of_decide_eq_true z (Or.inl ?_))
                have := (hbd _ (hmem t (List.mem_range.mp ht))).1
                show (-1 : Int) < _
                omega
          have hfin := XB.zn hB3 hZ3
          have hGf : Gr (fun a _ => ZX xo b w a) w w107 := GX.tr (GX.nop (GX.tr hGx (hG9.wk (fun a i z => Or.inl (Or.inl z.1)))) hNn) hfin.2
          refine g_pop (pc' := 111) hX dX1_startEnumeration_110 (vI_cat _) rfl ?_
          refine g_iload_n (pc' := 112) hX dX1_startEnumeration_111 rfl rfl ?_
          exact g_retIX hX hF dX1_startEnumeration_112 ⟨by rw [if_neg (by omega)], by rw [ht, show i = n by omega], ⟨hfin.1.1, hfin.1.2.1, hfin.1.2.2.1, hfin.1.2.2.2, Or.inr ⟨by show (0 : Int) ≤ 0; omega, by rw [hx4]; exact h23, by rw [hx4, h9x 24 (by omega)]; exact h24, ⟨by omega, hn6⟩, _, hEN⟩⟩, hGf⟩
        · skip
          refine g_iload_n (pc' := 42) hX dX1_startEnumeration_41 rfl rfl ?_
          refine g_iload_n (pc' := 43) hX dX1_startEnumeration_42 rfl rfl ?_
          refine g_iconst (pc' := 44) hX dX1_startEnumeration_43 rfl ?_
          refine g_iadd (pc' := 45) hX dX1_startEnumeration_44 rfl ?_
          refine g_imul (pc' := 46) hX dX1_startEnumeration_45 rfl ?_
          refine g_istore_n_1 (pc' := 47) hX dX1_startEnumeration_46 (by decide) rfl rfl ?_
          refine g_iconst (pc' := 48) hX dX1_startEnumeration_47 rfl ?_
          refine g_istore_n_3 (pc' := 49) hX dX1_startEnumeration_48 (by decide) rfl rfl ?_
          have loop2 : ∀ (f : Nat) (j : Int) (v : Wd), 0 ≤ j → j ≤ n → XB E xo b n m h sn sm sh v → Gr (fun a _ => ZX xo b w a) w v → rdw v xo 22 = r23 → (∀ k q : Int, 0 ≤ k → k ≤ 14 → rdw v (b + k) q = rdw w23 (b + k) q) → (∀ p q : Int, 0 ≤ p → p ≤ i → 0 ≤ q → q < n → (p < i ∨ q < j) → rdw v (b + 25 + p) q = (tC m h p q - rdw w23 (b + 8) p - rdw w23 (b + 9) q)) → n < j + f → GG X 3 9 v 49 [(1, xo), (0, t * (i + 1)), (0, i), (0, j)] [] := by
            intro f
            induction f with
            | zero => intro j v j0 j1 hB hG h22 hk hA2 hf; exact absurd hf (by omega)
            | succ f ih2 =>
              intro j v j0 j1 hB hG h22 hk hA2 hf
              have hV := hB.1
              have hf0 := hB.2.2.1.1.1.1
              refine g_iload_n (pc' := 50) hX dX1_startEnumeration_49 rfl rfl ?_
              refine g_aload_n (pc' := 51) hX dX1_startEnumeration_50 rfl rfl ?_
              refine gf_X1_7 (pc' := 54) hX dX1_startEnumeration_51 hV.h0 hV.hk rfl ?_
              rw [hf0]
              refine g_icmp_ge (pc' := 57) (tgt := 77) hX dX1_startEnumeration_54 (by decide) rfl (by omega) (by omega) (fun h54 => ?_) (fun h54 => ?_)
              · skip
                refine g_iinc_2 (pc' := 80) hX dX1_startEnumeration_77 (by decide) rfl rfl ?_
                refine g_goto (tgt := 33) hX dX1_startEnumeration_80 (by decide) ?_
                exact ih (i + 1) _ v _ (by omega) (by omega) (by rw [show (i + 1).toNat = i.toNat + 1 by omega, fc_s i.toNat (by omega), ht, Int.natCast_mul, Int.natCast_add, Int.toNat_of_nonneg i0]; rfl) hB hG h22 hk (fun p q p0 p1 q0 q1 => hA2 p q p0 (by omega) q0 q1 (by omega)) (by omega)
              · skip
                refine g_aload_n (pc' := 58) hX dX1_startEnumeration_57 rfl rfl ?_
                refine gf_X1_88 (pc' := 61) hX dX1_startEnumeration_58 hV.h0 hV.hk rfl ?_
                rw [hV.f 21 (by decide) (show xF 21 = 24 from rfl)]
                refine g_iload_n (pc' := 62) hX dX1_startEnumeration_61 rfl rfl ?_
                refine g_aaldL (pc' := 63) hX dX1_startEnumeration_62 (by have := hV.b0; omega) (by rw [hV.kk 24 (by decide) (show xK b 24 = 54 from rfl)]; decide) (hV.ln 24 (by decide) (show xL 24 = 7 from rfl)) (by omega) rfl ?_
                rw [hV.c24 (by omega)]
                refine g_iload_n (pc' := 64) hX dX1_startEnumeration_63 rfl rfl ?_
                refine g_aload_n (pc' := 65) hX dX1_startEnumeration_64 rfl rfl ?_
                refine g_iload_n (pc' := 66) hX dX1_startEnumeration_65 rfl rfl ?_
                refine g_iload_n (pc' := 67) hX dX1_startEnumeration_66 rfl rfl ?_
                refine gV2E0 (pc' := 70) hX dX1_startEnumeration_67 ml_X1_262 gc_X1 hV.h0 hV.hk (c_s_reducedHere hV (by omega) (by omega)) (Nat.le_of_ble_eq_true rfl) (by decide) rfl ?_
                have e1 := hk (1 + i) j (by omega) (by omega)
                rw [show b + (1 + i) = b + 1 + i by omega] at e1
                rw [e1, hk 8 i (by omega) (by omega), hk 9 j (by omega) (by omega), hA5 i j i0 (by omega) j0 (by omega)]
                refine g_iastL (pc' := 71) hX dX1_startEnumeration_70 (by have := hV.hbb; omega) (hV.rk (by omega)) (hV.rl (by omega)) (by omega) rfl ?_
                have hxb := hV.1.2.1
                have hB2 := hB.gr (P := fun a k => a = b + 25 + i ∧ k = j) (u := upw v (b + 25 + i) j (tC m h i j - rdw w23 (b + 8) i - rdw w23 (b + 9) j)) (Gr.rf.up ⟨rfl, rfl⟩) (fun a k z => by omega)
                have hG2 : Gr (fun a _ => ZX xo b w a) w (upw v (b + 25 + i) j (tC m h i j - rdw w23 (b + 8) i - rdw w23 (b + 9) j)) := hG.up (Or.inl (Or.inr (by omega)))
                have h222 : rdw (upw v (b + 25 + i) j (tC m h i j - rdw w23 (b + 8) i - rdw w23 (b + 9) j)) xo 22 = r23 := (rd_up_ne (by omega)).trans h22
                have hk2 : ∀ k q : Int, 0 ≤ k → k ≤ 14 → rdw (upw v (b + 25 + i) j (tC m h i j - rdw w23 (b + 8) i - rdw w23 (b + 9) j)) (b + k) q = rdw w23 (b + k) q := fun k q k0 k1 => (rd_up_ne (by omega)).trans (hk k q k0 k1)
                have hA3 : ∀ p q : Int, 0 ≤ p → p ≤ i → 0 ≤ q → q < n → (p < i ∨ q < j + 1) → rdw (upw v (b + 25 + i) j (tC m h i j - rdw w23 (b + 8) i - rdw w23 (b + 9) j)) (b + 25 + p) q = (tC m h p q - rdw w23 (b + 8) p - rdw w23 (b + 9) q) := fun p q p0 p1 q0 q1 pq => by
                  by_cases hp : p = i ∧ q = j
                  · rw [hp.1, hp.2, rd_up_eq ⟨rfl, rfl⟩]
                  · rw [rd_up_ne (by omega)]; exact hA2 p q p0 p1 q0 q1 (by omega)
                generalize upw v (b + 25 + i) j (tC m h i j - rdw w23 (b + 8) i - rdw w23 (b + 9) j) = v2 at *
                have hV := hB2.1
                have hf0 := hB2.2.2.1.1.1.1
                refine g_iinc_3 (pc' := 74) hX dX1_startEnumeration_71 (by decide) rfl rfl ?_
                refine g_goto (tgt := 49) hX dX1_startEnumeration_74 (by decide) ?_
                exact ih2 (j + 1) v2 (by omega) (by omega) hB2 hG2 h222 hk2 hA3 (by omega)
          exact loop2 100 0 u (by omega) (by omega) hB hG h22 hk (fun p q p0 p1 q0 q1 pq => hA p q p0 (by omega) q0 q1) (by omega)
    exact GG_less (loop 100 0 1 u1 _ (by omega) (by omega) rfl hB1 hG1 h22 hk1 (fun p q p0 p1 q0 q1 => by omega) (by omega)) (by omega) (by omega)

end S16S
