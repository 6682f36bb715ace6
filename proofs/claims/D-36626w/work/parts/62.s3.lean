/-! THE SOLVER: the nearest end, the columns of a row (by gen/spec_s3.py) -/
set_option maxRecDepth 100000
set_option maxHeartbeats 4000000
section S3S
variable {X : Cx} {bc bs pc : Nat} {lv : List (Nat × Int)} {st : List Value} {E : Ev} {w w0 u u' : Wd} {P : Int → Int → Prop} {T r c n m sn sm l i j k v a z xo b it x y sz s fd far q row base : Int} {h h' sh C0 : Int → Int → Int} {f g : Int → Int} {e : En} {S : Int → Prop}
theorem settle_step (hV : XI E xo b u) (hS : QS E xo b sz u s S fd) (hO : QO b sz u S y) (hy : y < 0 ∨ rdw u (b + 14) y = 1) (hr : S r) (hmin : ∀ x, S x → rkW u r ≤ rkW u x) (hP : PQ E u' (b + 15) (b + 16) (s - 1) (fun x => S x ∧ x ≠ r) (rkW u)) (hF : Fr (fun a _ => qP E u (b + 15) a) u u') (h0 : rdw u' (b + 15) 0 = rdw u (b + 15) 0) :
    (XI E xo b u' ∧ QS E xo b sz u' (s - 1) (fun x => S x ∧ x ≠ r) fd ∧ QO b sz u' (fun x => S x ∧ x ≠ r) (rdw u r 2)) ∧ ((0 ≤ rdw u r 2 ∧ rdw u r 2 < sz) ∧ rdw u (b + 12) (rdw u r 2) ≤ rdw u r 0 ∧ rdw u r 0 < 1048576 ∧ ∀ j : Int, 0 ≤ j → j < sz → rdw u (b + 14) j = 0 → rdw u (b + 12) j < 1048576 → rdw u r 0 ≤ rdw u (b + 12) j) ∧
    (rdw u' r 2 = rdw u r 2 ∧ kdw u' r = 3 ∧ 0 ≤ r) ∧ (∀ i, rdw u' xo i = rdw u xo i) ∧ (∀ k i : Int, 0 ≤ k → k ≤ 31 → k ≠ 15 → k ≠ 17 → rdw u' (b + k) i = rdw u (b + k) i) ∧ Fr (ZQ E xo b u) u u' := by
  obtain ⟨hPQ, hM, hfd, hcap, hD⟩ := hS
  have hka : kdw u (rdw u (b + 15) 0) = qk b := hPQ.2.1.2.1
  have h15 := hV.kk 15 (by decide) (show xK b 15 = 9 from rfl)
  have hx := qP_x hV hka hF.gr
  have hFz : Fr (ZQ E xo b u) u u' := hF.wk (fun a i z => qP_zq hka hPQ.2.1.1 z)
  have hw : ∀ r, S r → WV u' r ∧ rkW u' r = rkW u r ∧ ∀ i, rdw u' r i = rdw u r i := fun r hr => (hM r hr).1.gr hF.gr (fun _ => qP_w hka h15 (hM r hr).1.1.2)
  have hMr := hM r hr
  refine ⟨⟨hV.zq hFz.gr, ⟨hP.rk (fun x hx => (hw x hx.1).2.1), fun x hx' => ?_, ⟨by rw [hx.1]; exact hfd.1, hfd.2.1, hfd.2.2.1, by omega⟩, by rw [h0, hF.ln]; exact hcap, fun j j0 j1 => by rw [hx.2 14 j (by omega) (by omega) (by omega) (by omega), hx.2 12 j (by omega) (by omega) (by omega) (by omega)]; exact hD j j0 j1⟩, fun j j0 j1 jx e1 e2 => ?_⟩, ⟨⟨hMr.1.2.2.2.1, hMr.2.1⟩, hMr.2.2, hMr.1.2.1.2, fun j j0 j1 e1 e2 => ?_⟩, ⟨(hw r hr).2.2 2, (hw r hr).1.1.2, hMr.1.1.1⟩, hx.1, hx.2, hFz⟩
  · have h1 := hw x hx'.1
    rw [h1.2.2, h1.2.2, hx.2 12 _ (by omega) (by omega) (by omega) (by omega)]
    exact ⟨h1.1, (hM x hx'.1).2⟩
  · rw [hx.2 14 j (by omega) (by omega) (by omega) (by omega)] at e1
    rw [hx.2 12 j (by omega) (by omega) (by omega) (by omega)] at e2 ⊢
    obtain ⟨r', s1, s2, s3⟩ := hO j j0 j1 (fun z => by
      rcases hy with t | t
      · omega
      · rw [z, t] at e1; omega) e1 e2
    refine ⟨r', ⟨s1, fun z => jx (by rw [← s2, z])⟩, ?_, ?_⟩
    · rw [(hw r' s1).2.2]; exact s2
    · rw [(hw r' s1).2.2]; exact s3
  · obtain ⟨r', s1, s2, s3⟩ := hO j j0 j1 (fun z => by
      rcases hy with t | t
      · omega
      · rw [z, t] at e1; omega) e1 e2
    have h1 := hmin r' s1
    have h2 := (hM r' s1).1.2.2.1
    have h3 := hMr.1.2.2.1
    unfold rkW at h1
    omega
theorem QO.s1 (hP : PQ E u (b + 15) k s S g) (hr : S r) : 1 ≤ s := by
  obtain ⟨i, i0, i1, -⟩ := (hP.2.2.1.2 r).mp hr
  omega
theorem nw_le (hS : QS E xo b sz u s S fd) (h : s ≤ 49) : nwS u b s ≤ gsl (lnw u (rdw u (b + 15) 0)) := by
  have h1 := gsl_ok hS.2.2.2.1 ⟨hS.1.1.2.2.2.2, hS.1.2.1.2.2.1, h⟩
  unfold nwS
  omega
theorem rcx {α : Type} {x y : α} (j q : Int) (hno : ¬ (rdw w (b + 14) j = 0 ∧ base + (rdw w (b + 1 + row) j - rdw w (b + 8) row - rdw w (b + 9) j) < rdw w (b + 12) j)) : (if (0 ≤ q ∧ q < j) ∧ rdw w (b + 14) q = 0 ∧ base + (rdw w (b + 1 + row) q - rdw w (b + 8) row - rdw w (b + 9) q) < rdw w (b + 12) q then x else y) = (if (0 ≤ q ∧ q < j + 1) ∧ rdw w (b + 14) q = 0 ∧ base + (rdw w (b + 1 + row) q - rdw w (b + 8) row - rdw w (b + 9) q) < rdw w (b + 12) q then x else y) := by
  by_cases hq : q = j
  · rw [hq, if_neg (by omega), if_neg (fun z => hno z.2)]
  · (repeat' split) <;> first | rfl | (exfalso; omega)
theorem c_s_settleNext (hX0 : XI E xo b w) (hS : QS E xo b sz w s S fd) (hO : QO b sz w S (-1)) (hz : sz ≤ 7) (hex : ∃ j : Int, 0 ≤ j ∧ j < sz ∧ rdw w (b + 14) j = 0 ∧ rdw w (b + 12) j < 1048576) : Call E mX1_settleNext 6 0 0 [vR xo] w (qI (fun q w' => ((0 ≤ q ∧ q < sz) ∧ rdw w (b + 14) q = 0 ∧ rdw w (b + 12) q < 1048576 ∧ ∀ j : Int, 0 ≤ j → j < sz → rdw w (b + 14) j = 0 → rdw w (b + 12) q ≤ rdw w (b + 12) j) ∧ XI E xo b w' ∧ Fr (ZQ E xo b w) w w' ∧ (∃ s' S', QS E xo b sz w' s' S' fd ∧ QO b sz w' S' (-1)) ∧ (∀ j, rdw w' (b + 12) j = rdw w (b + 12) j) ∧ (∀ j, rdw w' (b + 13) j = rdw w (b + 13) j) ∧ ∀ j, rdw w' (b + 14) j = if j = q then 1 else rdw w (b + 14) j)) := by
  refine call_of (av := [(1, xo)]) (by decide +kernel) rfl (Nat.le_of_ble_eq_true rfl) ?_
  intro X hX hF hname
  show GG X 0 0 w 0 [(1, xo), (9, 0)] []
  have hV := hX0
  have hxb := hX0.1.2.1
  obtain ⟨j0, e1, e2, e3, e4⟩ := hex
  obtain ⟨rj, hrj, -, -⟩ := hO j0 e1 e2 (by omega) e3 e4
  refine g_aload_n (pc' := 1) hX dX1_settleNext_0 rfl rfl ?_
  refine gf_X1_69 (pc' := 4) hX dX1_settleNext_1 hV.h0 hV.hk rfl ?_
  rw [hV.f 15 (by decide) (show xF 15 = 15 from rfl)]
  refine gV0A (pc' := 7) hX dX1_settleNext_4 ml_X1_256 gc_J9 (by have := hX0.b0; omega) (hX0.kk 15 (by decide) (show xK b 15 = 9 from rfl)) (c_j_poll hS.1 (QO.s1 hS.1 hrj) ml_J9_149_X2 gc_X2 (by have := hX0.b0; omega) (hX0.kk 16 (by decide) (show xK b 16 = 5 from rfl)) (fun r hr => ⟨okr_k (hS.2.1 r hr).1.1.2 (by omega), (hS.2.1 r hr).1.1.1⟩) (CMG_W (by have := hX0.b0; omega) (hX0.kk 16 (by decide) (show xK b 16 = 5 from rfl)) (fun r hr => ⟨(hS.2.1 r hr).1, qP_w hS.1.2.1.2.1 (hX0.kk 15 (by decide) (show xK b 15 = 9 from rfl)) (hS.2.1 r hr).1.1.2⟩))) (Nat.le_of_ble_eq_true rfl) (by decide) (by omega) rfl (fun r4 w4 q4 => ?_)
  obtain ⟨-, p1, p2, p3, p4, p5⟩ := q4
  obtain ⟨⟨hV, hS1, hO1⟩, ⟨hxr, hdx, hk0, hmin⟩, hyr, hxs, hbs, hFz⟩ := settle_step hX0 hS hO (Or.inl (by omega)) p1 p2 p3 p4 p5
  refine g_cast (pc' := 10) hX dX1_settleNext_7 gc_X5 q583 hyr.2.2 hyr.2.1 rfl ?_
  refine gf_X1_259 (pc' := 13) hX dX1_settleNext_10 hyr.2.2 hyr.2.1 rfl ?_
  rw [hyr.1]
  obtain ⟨x0, hx0⟩ : ∃ x0, x0 = rdw w r4 2 := ⟨_, rfl⟩
  obtain ⟨κ, hκ⟩ : ∃ κ, κ = rdw w r4 0 := ⟨_, rfl⟩
  rw [← hx0] at hO1 hxr hdx
  rw [← hκ] at hdx hk0 hmin
  rw [← hx0]
  refine g_istore_n_1 (pc' := 14) hX dX1_settleNext_13 (by decide) rfl rfl ?_
  have loop : ∀ (g : Nat) (x κ : Int) (u : Wd) (s : Int) (S : Int → Prop), XI E xo b u → Fr (ZQ E xo b w) w u → QS E xo b sz u s S fd → QO b sz u S x → (0 ≤ x ∧ x < sz) → rdw w (b + 12) x ≤ κ → κ < 1048576 → (∀ j : Int, 0 ≤ j → j < sz → rdw w (b + 14) j = 0 → rdw w (b + 12) j < 1048576 → κ ≤ rdw w (b + 12) j) → (∀ k i : Int, 0 ≤ k → k ≤ 31 → k ≠ 15 → k ≠ 17 → rdw u (b + k) i = rdw w (b + k) i) → s < g → GG X 0 0 u 14 [(1, xo), (0, x)] [] := by
    intro g
    induction g with
    | zero => intro x κ u s S _ _ hS _ _ _ _ _ _ hg; exact absurd hg (by have := hS.1.1.2.2.2.2; omega)
    | succ g ih =>
      intro x κ u s S hV hW hS hO hx hdx hk0 hmin hbs hg
      refine g_aload_n (pc' := 15) hX dX1_settleNext_14 rfl rfl ?_
      refine gf_X1_57 (pc' := 18) hX dX1_settleNext_15 hV.h0 hV.hk rfl ?_
      rw [hV.f 14 (by decide) (show xF 14 = 14 from rfl)]
      refine g_iload_n (pc' := 19) hX dX1_settleNext_18 rfl rfl ?_
      refine g_zaldL (pc' := 20) hX dX1_settleNext_19 (by have := hV.b0; omega) (hV.kk 14 (by decide) (show xK b 14 = 51 from rfl)) (hV.ln 14 (by decide) (show xL 14 = 7 from rfl)) (by omega) rfl ?_
      refine g_if_eq (pc' := 23) (tgt := 40) hX dX1_settleNext_20 (by decide) rfl (by have h1 := (hS.2.2.2.2 x hx.1 hx.2).1; omega) (fun h20 => ?_) (fun h20 => ?_)
      · skip
        have hst : rdw u (b + 14) x = 0 := by omega
        have hst0 := (hbs 14 x (by omega) (by omega) (by omega) (by omega)).symm.trans hst
        refine g_aload_n (pc' := 41) hX dX1_settleNext_40 rfl rfl ?_
        refine gf_X1_57 (pc' := 44) hX dX1_settleNext_41 hV.h0 hV.hk rfl ?_
        rw [hV.f 14 (by decide) (show xF 14 = 14 from rfl)]
        refine g_iload_n (pc' := 45) hX dX1_settleNext_44 rfl rfl ?_
        refine g_iconst (pc' := 46) hX dX1_settleNext_45 rfl ?_
        refine g_zastL (pc' := 47) hX dX1_settleNext_46 (by have := hV.hbb; omega) (hV.kk 14 (by decide) (show xK b 14 = 51 from rfl)) (hV.ln 14 (by decide) (show xL 14 = 7 from rfl)) (by omega) (Or.inr rfl) rfl ?_
        have hka : kdw u (rdw u (b + 15) 0) = qk b := hS.1.2.1.2.1
        have h14 := hV.kk 14 (by decide) (show xK b 14 = 51 from rfl)
        have hPQ := hS.1.upx (a := b + 14) (i := x) (x := 1) (by omega) (kd_ne hka h14 (by unfold qk; omega))
        have hwv : ∀ r, S r → WV (upw u (b + 14) x 1) r ∧ rkW (upw u (b + 14) x 1) r = rkW u r ∧ ∀ i, rdw (upw u (b + 14) x 1) r i = rdw u r i := fun r hr => (hS.2.1 r hr).1.gr (P := fun a _ => a = b + 14) (Gr.rf.up rfl) (fun i z => by have h1 := (hS.2.1 r hr).1.1.2; rw [z, h14] at h1; omega)
        refine hV.step hW (by omega) (Or.inr (Or.inr (Or.inr (Or.inl rfl)))) (fun hV hW => ?_)
        have g12 : ∀ k j : Int, k ≠ 14 → 0 ≤ k → k ≤ 13 → rdw (upw u (b + 14) x 1) (b + k) j = rdw w (b + k) j := fun k j hk k0 k1 => by rw [rd_up_ne (by omega)]; exact hbs k j (by omega) (by omega) (by omega) (by omega)
        have g14 : ∀ j, rdw (upw u (b + 14) x 1) (b + 14) j = if j = x then 1 else rdw w (b + 14) j := fun j => by
          by_cases hj : j = x
          · rw [rd_up_eq ⟨rfl, hj⟩, if_pos hj]
          · rw [rd_up_ne (by omega), if_neg hj]; exact hbs 14 j (by omega) (by omega) (by omega) (by omega)
        have hD := hS.2.2.2.2
        have hS3 : QS E xo b sz (upw u (b + 14) x 1) s S fd := by
          refine ⟨hPQ.1.rk (fun r hr => (hwv r hr).2.1), fun r hr => ?_, by rw [rd_up_ne (by omega)]; exact hS.2.2.1, by rw [hPQ.2]; exact hS.2.2.2.1, fun j q0 q1 => ?_⟩
          · rw [(hwv r hr).2.2, (hwv r hr).2.2, rd_up_ne (by omega)]
            exact ⟨(hwv r hr).1, (hS.2.1 r hr).2⟩
          · rw [rd_up_ne (a := b + 14) (b := b + 12) (by omega)]
            refine ⟨?_, (hD j q0 q1).2⟩
            by_cases hj : j = x
            · exact Or.inr (rd_up_eq ⟨rfl, hj⟩)
            · rw [rd_up_ne (by omega)]; exact (hD j q0 q1).1
        have hO3 : QO b sz (upw u (b + 14) x 1) S (-1) := fun j q0 q1 qx c1 c2 => by
          have hjx : j ≠ x := fun z => by rw [z, rd_up_eq ⟨rfl, rfl⟩] at c1; omega
          rw [rd_up_ne (by omega)] at c1 c2 ⊢
          obtain ⟨r, t1, t2, t3⟩ := hO j q0 q1 hjx c1 c2
          exact ⟨r, t1, by rw [(hwv r t1).2.2]; exact t2, by rw [(hwv r t1).2.2]; exact t3⟩
        generalize upw u (b + 14) x 1 = u3 at *
        refine g_iload_n (pc' := 48) hX dX1_settleNext_47 rfl rfl ?_
        refine g_retI hX hF dX1_settleNext_48 ⟨⟨hx, hst0, by omega, fun j q0 q1 c1 => ?_⟩, hV, hW, ⟨s, S, hS3, hO3⟩, fun j => g12 12 j (by omega) (by omega) (by omega), fun j => g12 13 j (by omega) (by omega) (by omega), g14⟩
        by_cases hj : rdw w (b + 12) j < 1048576
        · have := hmin j q0 q1 c1 hj; omega
        · omega
      · skip
        have hst : rdw u (b + 14) x = 1 := by have h1 := (hS.2.2.2.2 x hx.1 hx.2).1; omega
        obtain ⟨rj2, hrj2, -, -⟩ := hO j0 e1 e2 (fun z => by rw [← z, hbs 14 j0 (by omega) (by omega) (by omega) (by omega), e3] at hst; omega) (by rw [hbs 14 j0 (by omega) (by omega) (by omega) (by omega)]; exact e3) (by rw [hbs 12 j0 (by omega) (by omega) (by omega) (by omega)]; exact e4)
        refine g_aload_n (pc' := 24) hX dX1_settleNext_23 rfl rfl ?_
        refine gf_X1_69 (pc' := 27) hX dX1_settleNext_24 hV.h0 hV.hk rfl ?_
        rw [hV.f 15 (by decide) (show xF 15 = 15 from rfl)]
        refine gV0A (pc' := 30) hX dX1_settleNext_27 ml_X1_256 gc_J9 (by have := hV.b0; omega) (hV.kk 15 (by decide) (show xK b 15 = 9 from rfl)) (c_j_poll hS.1 (QO.s1 hS.1 hrj2) ml_J9_149_X2 gc_X2 (by have := hV.b0; omega) (hV.kk 16 (by decide) (show xK b 16 = 5 from rfl)) (fun r hr => ⟨okr_k (hS.2.1 r hr).1.1.2 (by omega), (hS.2.1 r hr).1.1.1⟩) (CMG_W (by have := hV.b0; omega) (hV.kk 16 (by decide) (show xK b 16 = 5 from rfl)) (fun r hr => ⟨(hS.2.1 r hr).1, qP_w hS.1.2.1.2.1 (hV.kk 15 (by decide) (show xK b 15 = 9 from rfl)) (hS.2.1 r hr).1.1.2⟩))) (Nat.le_of_ble_eq_true rfl) (by decide) (by omega) rfl (fun r27 w27 q27 => ?_)
        obtain ⟨-, p1, p2, p3, p4, p5⟩ := q27
        obtain ⟨⟨hV2, hS2, hO2⟩, ⟨hxr, hdx2, hk2, hmin2⟩, hyr, hxs2, hbs2, hFz2⟩ := settle_step hV hS hO (Or.inr hst) p1 p2 p3 p4 p5
        refine g_cast (pc' := 33) hX dX1_settleNext_30 gc_X5 q583 hyr.2.2 hyr.2.1 rfl ?_
        refine gf_X1_259 (pc' := 36) hX dX1_settleNext_33 hyr.2.2 hyr.2.1 rfl ?_
        rw [hyr.1]
        refine g_istore_n_1 (pc' := 37) hX dX1_settleNext_36 (by decide) rfl rfl ?_
        refine g_goto (tgt := 14) hX dX1_settleNext_37 (by decide) ?_
        refine ih (rdw u r27 2) (rdw u r27 0) w27 (s - 1) _ hV2 (hW.tr (hFz2.wk (fun a i z => ?_))) hS2 hO2 hxr (by rw [← hbs 12 _ (by omega) (by omega) (by omega) (by omega)]; exact hdx2) hk2 (fun j q0 q1 c1 c2 => ?_) (fun k i a1 a2 a3 a4 => (hbs2 k i a1 a2 a3 a4).trans (hbs k i a1 a2 a3 a4)) (by omega)
        · unfold ZQ at z ⊢
          rw [hW.kd] at z; exact z
        · rw [← hbs 12 j (by omega) (by omega) (by omega) (by omega)]
          exact hmin2 j q0 q1 (by rw [hbs 14 j (by omega) (by omega) (by omega) (by omega)]; exact c1) (by rw [hbs 12 j (by omega) (by omega) (by omega) (by omega)]; exact c2)
  exact loop 100 x0 κ w4 (s - 1) _ hV hFz hS1 hO1 hxr hdx hk0 hmin hbs (by have := hS.2.2.1; omega)

theorem c_s_relaxColumns (hX0 : XI E xo b w) (hS : QS E xo b sz w s S fd) (hO : QO b sz w S (-1)) (hz : sz ≤ 7) (h6 : rdw w xo 6 = sz) (hfd : fd ≤ 42) (hrow : 0 ≤ row ∧ row < sz) (hfar : ∀ j : Int, 0 ≤ j → j < sz → rdw w (b + 14) j = 0 → 0 ≤ (base + (rdw w (b + 1 + row) j - rdw w (b + 8) row - rdw w (b + 9) j)) ∧ (base + (rdw w (b + 1 + row) j - rdw w (b + 8) row - rdw w (b + 9) j)) < 1048576) : Call E mX1_relaxColumns 9 14 95 [vR xo, vI row, vI base] w (qU (fun w' => XI E xo b w' ∧ Gr (ZQ E xo b w) w w' ∧ (∃ s' S' fd', QS E xo b sz w' s' S' fd' ∧ QO b sz w' S' (-1) ∧ fd ≤ fd' ∧ fd' ≤ fd + 7) ∧ (∀ j, rdw w' (b + 12) j = if (0 ≤ j ∧ j < sz) ∧ rdw w (b + 14) j = 0 ∧ (base + (rdw w (b + 1 + row) j - rdw w (b + 8) row - rdw w (b + 9) j)) < rdw w (b + 12) j then (base + (rdw w (b + 1 + row) j - rdw w (b + 8) row - rdw w (b + 9) j)) else rdw w (b + 12) j) ∧ (∀ j, rdw w' (b + 13) j = if (0 ≤ j ∧ j < sz) ∧ rdw w (b + 14) j = 0 ∧ (base + (rdw w (b + 1 + row) j - rdw w (b + 8) row - rdw w (b + 9) j)) < rdw w (b + 12) j then row else rdw w (b + 13) j) ∧ ∀ j, rdw w' (b + 14) j = rdw w (b + 14) j)) := by
  refine call_of (av := [(1, xo), (0, row), (0, base)]) (by decide +kernel) rfl (Nat.le_of_ble_eq_true rfl) ?_
  intro X hX hF hname
  show GG X 14 95 w 0 [(1, xo), (0, row), (0, base), (9, 0), (9, 0)] []
  have hxb := hX0.1.2.1
  have hcap0 : gsl (lnw w (rdw w (b + 15) 0)) ≤ 74 := by unfold gsl; (repeat' split) <;> omega
  refine g_iconst (pc' := 1) hX dX1_relaxColumns_0 rfl ?_
  refine g_istore_n_3 (pc' := 2) hX dX1_relaxColumns_1 (by decide) rfl rfl ?_
  have loop : ∀ (f : Nat) (j : Int) (u : Wd) (s : Int) (S : Int → Prop) (fd2 : Int) (x4 : Nat × Int), 0 ≤ j → j ≤ sz → XI E xo b u → Gr (ZQ E xo b w) w u → QS E xo b sz u s S fd2 → QO b sz u S (-1) → fd ≤ fd2 → fd2 ≤ fd + j → (∀ q, rdw u (b + 12) q = if (0 ≤ q ∧ q < j) ∧ rdw w (b + 14) q = 0 ∧ (base + (rdw w (b + 1 + row) q - rdw w (b + 8) row - rdw w (b + 9) q)) < rdw w (b + 12) q then (base + (rdw w (b + 1 + row) q - rdw w (b + 8) row - rdw w (b + 9) q)) else rdw w (b + 12) q) → (∀ q, rdw u (b + 13) q = if (0 ≤ q ∧ q < j) ∧ rdw w (b + 14) q = 0 ∧ (base + (rdw w (b + 1 + row) q - rdw w (b + 8) row - rdw w (b + 9) q)) < rdw w (b + 12) q then row else rdw w (b + 13) q) → (∀ q, rdw u (b + 14) q = rdw w (b + 14) q) → sz < j + f → GG X (2 * (7 - j).toNat) (3 * (7 - j).toNat + gsl (lnw u (rdw u (b + 15) 0))) u 2 [(1, xo), (0, row), (0, base), (0, j), x4] [] := by
    intro f
    induction f with
    | zero => intro j u s S fd2 x4 j0 j1 hV hW hS hO hf1 hf2 h12 h13 h14 hf; exact absurd hf (by omega)
    | succ f ih =>
      intro j u s S fd2 x4 j0 j1 hV hW hS hO hf1 hf2 h12 h13 h14 hf
      have h6u : rdw u xo 6 = sz := (ZQ.kx hX0 hW (by omega)).trans h6
      refine g_iload_n (pc' := 3) hX dX1_relaxColumns_2 rfl rfl ?_
      refine g_aload_n (pc' := 4) hX dX1_relaxColumns_3 rfl rfl ?_
      refine gf_X1_237 (pc' := 7) hX dX1_relaxColumns_4 hV.h0 hV.hk rfl ?_
      rw [h6u]
      refine g_icmp_ge (pc' := 10) (tgt := 60) hX dX1_relaxColumns_7 (by decide) rfl (by omega) (by omega) (fun h7 => ?_) (fun h7 => ?_)
      · skip
        exact g_retU hX hF dX1_relaxColumns_60 ⟨hV, hW, ⟨s, S, fd2, hS, hO, by omega, by omega⟩, by rw [show j = sz by omega] at h12; exact h12, by rw [show j = sz by omega] at h13; exact h13, h14⟩
      · skip
        refine g_iload_n (pc' := 11) hX dX1_relaxColumns_10 rfl rfl ?_
        refine g_aload_n (pc' := 12) hX dX1_relaxColumns_11 rfl rfl ?_
        refine g_iload_n (pc' := 13) hX dX1_relaxColumns_12 rfl rfl ?_
        refine g_iload_n (pc' := 14) hX dX1_relaxColumns_13 rfl rfl ?_
        refine gV2E0 (pc' := 17) hX dX1_relaxColumns_14 ml_X1_262 gc_X1 hV.h0 hV.hk (c_s_reducedHere hV (by omega) (by omega)) (Nat.le_of_ble_eq_true rfl) (by decide) rfl ?_
        rw [ZQ.ck hX0 hW (by omega), ZQ.kp hX0 hW (k := 8) (by omega) (by omega), ZQ.kp hX0 hW (k := 9) (by omega) (by omega)]
        refine g_iadd (pc' := 18) hX dX1_relaxColumns_17 rfl ?_
        obtain ⟨F, hFe⟩ : ∃ F, F = (base + (rdw w (b + 1 + row) j - rdw w (b + 8) row - rdw w (b + 9) j)) := ⟨_, rfl⟩
        rw [← hFe]
        refine g_istore_4 (pc' := 20) hX dX1_relaxColumns_18 (by decide) rfl rfl ?_
        refine g_aload_n (pc' := 21) hX dX1_relaxColumns_20 rfl rfl ?_
        refine gf_X1_57 (pc' := 24) hX dX1_relaxColumns_21 hV.h0 hV.hk rfl ?_
        rw [hV.f 14 (by decide) (show xF 14 = 14 from rfl)]
        refine g_iload_n (pc' := 25) hX dX1_relaxColumns_24 rfl rfl ?_
        refine g_zaldL (pc' := 26) hX dX1_relaxColumns_25 (by have := hV.b0; omega) (hV.kk 14 (by decide) (show xK b 14 = 51 from rfl)) (hV.ln 14 (by decide) (show xL 14 = 7 from rfl)) (by omega) rfl ?_
        have h14j := h14 j
        have h12j := h12 j
        have hDj := hS.2.2.2.2 j j0 (by omega)
        rw [if_neg (by omega)] at h12j
        refine g_if_ne (pc' := 29) (tgt := 54) hX dX1_relaxColumns_26 (by decide) rfl (by omega) (fun h26 => ?_) (fun h26 => ?_)
        · skip
          have hno : ¬ (rdw w (b + 14) j = 0 ∧ base + (rdw w (b + 1 + row) j - rdw w (b + 8) row - rdw w (b + 9) j) < rdw w (b + 12) j) := by rw [← h14j]; omega
          refine g_iinc_3 (pc' := 57) hX dX1_relaxColumns_54 (by decide) rfl rfl ?_
          refine g_goto (tgt := 2) hX dX1_relaxColumns_57 (by decide) ?_
          first
            | exact GG_less (ih (j + 1) u3 _ _ _ _ (by omega) (by omega) hV3 hW3 hS3 hO3 (by omega) (by omega) h12c h13c h14c (by omega)) (by omega) (by omega)
            | exact GG_less (ih (j + 1) u s S fd2 _ (by omega) (by omega) hV hW hS hO (by omega) (by omega) (fun q => by rw [h12 q, rcx j q hno]) (fun q => by rw [h13 q, rcx j q hno]) h14 (by omega)) (by omega) (by omega)
        · skip
          have hu0 : rdw w (b + 14) j = 0 := by omega
          have hFj := hfar j j0 (by omega) hu0
          rw [← hFe] at hFj
          refine g_iload (pc' := 31) hX dX1_relaxColumns_29 rfl rfl ?_
          refine g_aload_n (pc' := 32) hX dX1_relaxColumns_31 rfl rfl ?_
          refine gf_X1_51 (pc' := 35) hX dX1_relaxColumns_32 hV.h0 hV.hk rfl ?_
          rw [hV.f 12 (by decide) (show xF 12 = 12 from rfl)]
          refine g_iload_n (pc' := 36) hX dX1_relaxColumns_35 rfl rfl ?_
          refine g_ialdL (pc' := 37) hX dX1_relaxColumns_36 (by have := hV.b0; omega) (hV.kk 12 (by decide) (show xK b 12 = 50 from rfl)) (hV.ln 12 (by decide) (show xL 12 = 7 from rfl)) (by omega) rfl ?_
          refine g_icmp_ge (pc' := 40) (tgt := 54) hX dX1_relaxColumns_37 (by decide) rfl (by omega) (by omega) (fun h37 => ?_) (fun h37 => ?_)
          · skip
            have hno : ¬ (rdw w (b + 14) j = 0 ∧ base + (rdw w (b + 1 + row) j - rdw w (b + 8) row - rdw w (b + 9) j) < rdw w (b + 12) j) := by rw [← hFe]; omega
            refine g_iinc_3 (pc' := 57) hX dX1_relaxColumns_54 (by decide) rfl rfl ?_
            refine g_goto (tgt := 2) hX dX1_relaxColumns_57 (by decide) ?_
            first
              | exact GG_less (ih (j + 1) u3 _ _ _ _ (by omega) (by omega) hV3 hW3 hS3 hO3 (by omega) (by omega) h12c h13c h14c (by omega)) (by omega) (by omega)
              | exact GG_less (ih (j + 1) u s S fd2 _ (by omega) (by omega) hV hW hS hO (by omega) (by omega) (fun q => by rw [h12 q, rcx j q hno]) (fun q => by rw [h13 q, rcx j q hno]) h14 (by omega)) (by omega) (by omega)
          · skip
            have hlt : F < rdw w (b + 12) j := by omega
            refine g_aload_n (pc' := 41) hX dX1_relaxColumns_40 rfl rfl ?_
            refine gf_X1_54 (pc' := 44) hX dX1_relaxColumns_41 hV.h0 hV.hk rfl ?_
            rw [hV.f 13 (by decide) (show xF 13 = 13 from rfl)]
            refine g_iload_n (pc' := 45) hX dX1_relaxColumns_44 rfl rfl ?_
            refine g_iload_n (pc' := 46) hX dX1_relaxColumns_45 rfl rfl ?_
            refine g_iastL (pc' := 47) hX dX1_relaxColumns_46 (by have := hV.hbb; omega) (hV.kk 13 (by decide) (show xK b 13 = 50 from rfl)) (hV.ln 13 (by decide) (show xL 13 = 7 from rfl)) (by omega) rfl ?_
            have hka : kdw u (rdw u (b + 15) 0) = qk b := hS.1.2.1.2.1
            have k13 := hV.kk 13 (by decide) (show xK b 13 = 50 from rfl)
            have hp := hS.1.upx (a := b + 13) (i := j) (x := row) (by omega) (kd_ne hka k13 (by unfold qk; omega))
            have hwv : ∀ r, S r → WV (upw u (b + 13) j row) r ∧ rkW (upw u (b + 13) j row) r = rkW u r ∧ ∀ i, rdw (upw u (b + 13) j row) r i = rdw u r i := fun r hr => (hS.2.1 r hr).1.gr (P := fun a _ => a = b + 13) (Gr.rf.up rfl) (fun i z => by have h1 := (hS.2.1 r hr).1.1.2; rw [z, k13] at h1; omega)
            have hS2 : QS E xo b sz (upw u (b + 13) j row) s S fd2 := ⟨hp.1.rk (fun r hr => (hwv r hr).2.1), fun r hr => by rw [(hwv r hr).2.2, (hwv r hr).2.2, rd_up_ne (by omega)]; exact ⟨(hwv r hr).1, (hS.2.1 r hr).2⟩, by rw [rd_up_ne (by omega)]; exact hS.2.2.1, by rw [hp.2]; exact hS.2.2.2.1, fun q q0 q1 => by rw [rd_up_ne (by omega), rd_up_ne (by omega)]; exact hS.2.2.2.2 q q0 q1⟩
            have hO2 : QO b sz (upw u (b + 13) j row) S (-1) := fun q q0 q1 qx c1 c2 => by
              rw [rd_up_ne (by omega)] at c1 c2 ⊢
              obtain ⟨r, t1, t2, t3⟩ := hO q q0 q1 qx c1 c2
              exact ⟨r, t1, by rw [(hwv r t1).2.2]; exact t2, by rw [(hwv r t1).2.2]; exact t3⟩
            have hln2 : lnw (upw u (b + 13) j row) (rdw (upw u (b + 13) j row) (b + 15) 0) = lnw u (rdw u (b + 15) 0) := by rw [hp.2]; rfl
            refine hV.stepG hW (by omega) (Or.inr (Or.inr (Or.inl rfl))) (fun hV hW => ?_)
            have g13 : ∀ q, rdw (upw u (b + 13) j row) (b + 13) q = if q = j then row else rdw u (b + 13) q := fun q => by
              by_cases hq : q = j
              · rw [rd_up_eq ⟨rfl, hq⟩, if_pos hq]
              · rw [rd_up_ne (by omega), if_neg hq]
            have g12 : ∀ q, rdw (upw u (b + 13) j row) (b + 12) q = rdw u (b + 12) q := fun q => rd_up_ne (by omega)
            have g14 : ∀ q, rdw (upw u (b + 13) j row) (b + 14) q = rdw u (b + 14) q := fun q => rd_up_ne (by omega)
            generalize upw u (b + 13) j row = u2 at *
            have hnw := nw_le hS2 (by have := hS.2.2.1; omega)
            refine g_aload_n (pc' := 48) hX dX1_relaxColumns_47 rfl rfl ?_
            refine g_iload (pc' := 50) hX dX1_relaxColumns_48 rfl rfl ?_
            refine g_iload_n (pc' := 51) hX dX1_relaxColumns_50 rfl rfl ?_
            refine gV2U (pc' := 54) hX dX1_relaxColumns_51 ml_X1_265 gc_X1 hV.h0 hV.hk (c_s_offer hV hS2 hO2 (by omega) (by omega) ⟨j0, by omega⟩ hz) (Nat.le_of_ble_eq_true rfl) (by decide) ⟨by omega, by rw [hln2] at hnw; omega⟩ rfl (fun w51 q51 => ?_)
            obtain ⟨hV3, hG3, ⟨s3, S3, fd3, hS3, hO3, hfa, hfb, hgs3⟩, o12, o13, o14⟩ := q51
            have hgs3 := hgs3 (by rw [g12]; omega)
            rw [hln2] at hgs3 hnw
            have hW3 := ZQ.tr hW hG3
            have h12c : ∀ q, rdw w51 (b + 12) q = if (0 ≤ q ∧ q < j + 1) ∧ rdw w (b + 14) q = 0 ∧ (base + (rdw w (b + 1 + row) q - rdw w (b + 8) row - rdw w (b + 9) q)) < rdw w (b + 12) q then (base + (rdw w (b + 1 + row) q - rdw w (b + 8) row - rdw w (b + 9) q)) else rdw w (b + 12) q := fun q => by
              rw [o12, g12, g12, h12 q]
              by_cases hq : q = j
              · rw [hq, if_pos ⟨rfl, by omega⟩, hFe, if_pos ⟨by omega, hu0, by omega⟩]
              · rw [if_neg (fun z => hq z.1)]
                (repeat' split) <;> first | rfl | (exfalso; omega)
            have h13c : ∀ q, rdw w51 (b + 13) q = if (0 ≤ q ∧ q < j + 1) ∧ rdw w (b + 14) q = 0 ∧ (base + (rdw w (b + 1 + row) q - rdw w (b + 8) row - rdw w (b + 9) q)) < rdw w (b + 12) q then row else rdw w (b + 13) q := fun q => by
              rw [o13, g13, h13 q]
              by_cases hq : q = j
              · rw [hq, if_pos rfl, if_pos ⟨by omega, hu0, by omega⟩]
              · rw [if_neg hq]
                (repeat' split) <;> first | rfl | (exfalso; omega)
            have h14c : ∀ q, rdw w51 (b + 14) q = rdw w (b + 14) q := fun q => by rw [o14, g14, h14 q]
            generalize w51 = u3 at *
            refine g_iinc_3 (pc' := 57) hX dX1_relaxColumns_54 (by decide) rfl rfl ?_
            refine g_goto (tgt := 2) hX dX1_relaxColumns_57 (by decide) ?_
            first
              | exact GG_less (ih (j + 1) u3 _ _ _ _ (by omega) (by omega) hV3 hW3 hS3 hO3 (by omega) (by omega) h12c h13c h14c (by omega)) (by omega) (by omega)
              | exact GG_less (ih (j + 1) u s S fd2 _ (by omega) (by omega) hV hW hS hO (by omega) (by omega) (fun q => by rw [h12 q, rcx j q hno]) (fun q => by rw [h13 q, rcx j q hno]) h14 (by omega)) (by omega) (by omega)
  exact GG_less (loop 9 0 w s S fd (9, 0) (by omega) (by omega) hX0 Gr.rf hS hO (by omega) (by omega) (fun q => by rw [if_neg (by omega)]) (fun q => by rw [if_neg (by omega)]) (fun q => rfl) (by omega)) (by omega) (by omega)

end S3S
