/-! THE SOLVER'S ANSWERS: minima, maximum (by gen/spec_s6.py) -/
set_option maxRecDepth 100000
set_option maxHeartbeats 8000000
/-- the component after work of the solver -/
def SB (E : Ev) (xo b n m : Int) (h : Int → Int → Int) (sn sm : Int) (sh : Int → Int → Int) (e : En) (w u : Wd) : Prop := XX E xo b n m h sn sm sh e u ∧ Gr (ZW E xo b w) w u
section S6S
variable {X : Cx} {bc bs pc : Nat} {lv : List (Nat × Int)} {st : List Value} {E : Ev} {w w0 u u' : Wd} {P : Int → Int → Prop} {T r c n m sn sm l i j k v a z xo b it x y sz s fd far q row base : Int} {h h' sh C C0 : Int → Int → Int} {f g : Int → Int} {e : En} {S : Int → Prop}
theorem ZW.tr (hG : Gr (ZW E xo b w) w u) (hG2 : Gr (ZW E xo b u) u u') : Gr (ZW E xo b w) w u' := hG.trN hG2 (fun a i hk z => by
  unfold ZW at z ⊢
  rw [hG.kd hk] at z; exact z)
theorem SB.rf (H : XX E xo b n m h sn sm sh e w) : SB E xo b n m h sn sm sh e w w := ⟨H, Gr.rf⟩
theorem SB.zu (H : SB E xo b n m h sn sm sh e w u) (hG : Gr (ZU E xo b u) u u') (hQ : XQ E b u') : SB E xo b n m h sn sm sh e w u' := by
  have hG2 : Gr (ZW E xo b u) u u' := hG.wk (fun a i z => ZU.zw z)
  exact ⟨H.1.zw hG2 hQ, ZW.tr H.2 hG2⟩
theorem XI.q0 (hX : XI E xo b u) (hQ : XQ E b u) (hG : Gr P u u') (hP : ∀ a i, P a i → (a = xo ∧ i = 6) ∨ (b + 1 ≤ a ∧ a ≤ b + 14) ∨ (b + 18 ≤ a ∧ a ≤ b + 20)) : XQ E b u' := by
  have hxb := hX.1.2.1
  have kz : ∀ a i (c : Nat), kdw u a = c → c ≠ 1 → c ≠ 50 → c ≠ 51 → ¬ P a i := fun a i c hc c1 c2 c3 z => by
    rcases hP a i z with y | y
    · rw [y.1, hX.hk] at hc; omega
    · have h3 := hX.2.1 (a - b) (by omega) (by omega)
      rw [show b + (a - b) = a by omega, hc] at h3
      unfold xK qk pk at h3
      (repeat' split at h3) <;> omega
  exact hQ.gr hG (fun i z => by have := hP _ _ z; omega) (fun a i hk => kz a i _ hk (by unfold qk; omega) (by unfold qk; omega) (by unfold qk; omega)) (fun a i hk => kz a i _ hk (by omega) (by omega) (by omega))
theorem SB.gn (H : SB E xo b n m h sn sm sh e w u) (hG : Gr P u u') (hP : ∀ a i, P a i → (a = xo ∧ i = 6) ∨ (b + 1 ≤ a ∧ a ≤ b + 14) ∨ (b + 18 ≤ a ∧ a ≤ b + 20)) : SB E xo b n m h sn sm sh e w u' := by
  have hG2 : Gr (ZW E xo b u) u u' := hG.wk (fun a i z => by
    rcases hP a i z with y | y
    · exact Or.inl ⟨y.1, Or.inl y.2⟩
    · exact Or.inr (Or.inl (by omega)))
  exact ⟨H.1.zw hG2 (H.1.1.q0 H.1.2.2.2.1 hG hP), ZW.tr H.2 hG2⟩
theorem SB.ld (H : SB E xo b n m h sn sm sh e w u) (hF : Fr (zLd xo b) u u') : SB E xo b n m h sn sm sh e w u' := H.gn hF.gr (fun a i z => by
  rcases z with y | y
  · exact Or.inl y
  · exact Or.inr (Or.inl (by omega)))
theorem SB.up6 (H : SB E xo b n m h sn sm sh e w u) (K : ∀ u', SB E xo b n m h sn sm sh e w u' → rdw u' xo 6 = x → GG X bc bs u' pc lv st) : GG X bc bs (upw u xo 6 x) pc lv st :=
  K _ (H.gn (P := fun a k => a = xo ∧ k = 6) (Gr.rf.up ⟨rfl, rfl⟩) (fun a i z => Or.inl z)) (rd_up_eq ⟨rfl, rfl⟩)
theorem SB.up (t : Int) (ht : (1 ≤ t ∧ t ≤ 14) ∨ (18 ≤ t ∧ t ≤ 20)) (H : SB E xo b n m h sn sm sh e w u) (K : ∀ u', SB E xo b n m h sn sm sh e w u' → (∀ s q : Int, rdw u' (b + s) q = if s = t ∧ q = i then x else rdw u (b + s) q) → rdw u' xo 6 = rdw u xo 6 → GG X bc bs u' pc lv st) : GG X bc bs (upw u (b + t) i x) pc lv st := by
  have hxb := H.1.1.1.2.1
  refine K _ (H.gn (P := fun a k => a = b + t ∧ k = i) (Gr.rf.up ⟨rfl, rfl⟩) (fun a i z => by omega)) (fun s q => ?_) (rd_up_ne (by omega))
  by_cases hq : s = t ∧ q = i
  · rw [if_pos hq, rd_up_eq ⟨by omega, hq.2⟩]
  · rw [if_neg hq, rd_up_ne (by omega)]
theorem SB.upc (hi : 0 ≤ i ∧ i < 7) (H : SB E xo b n m h sn sm sh e w u) (K : ∀ u', SB E xo b n m h sn sm sh e w u' → (∀ k q : Int, rdw u' (b + 1 + k) q = if k = i ∧ q = j then x else rdw u (b + 1 + k) q) → rdw u' xo 6 = rdw u xo 6 → GG X bc bs u' pc lv st) : GG X bc bs (upw u (b + 1 + i) j x) pc lv st := by
  have hxb := H.1.1.1.2.1
  refine K _ (H.gn (P := fun a k => a = b + 1 + i ∧ k = j) (Gr.rf.up ⟨rfl, rfl⟩) (fun a i z => by omega)) (fun s q => ?_) (rd_up_ne (by omega))
  by_cases hq : s = i ∧ q = j
  · rw [if_pos hq, rd_up_eq ⟨by omega, hq.2⟩]
  · rw [if_neg hq, rd_up_ne (by omega)]
theorem SB.gx (hX : XI E xo b w) (H : SB E xo b n m h sn sm sh e w u) : Gr (fun a _ => ZX xo b w a) w u := H.2.wk (fun a i z => ZW.zx hX z)
theorem XT.bCn (H : XT E xo n m h sn sm sh w) : bC (tC m h) n := fun i j i0 i1 j0 j1 => by
  have h1 := H.2.2.1 i j i0 i1 j0
  unfold tC
  split
  · omega
  · have := h1 (by omega)
    split <;> omega
theorem XT.bCs (H : XT E xo n m h sn sm sh w) : bC (tC sm sh) sn := fun i j i0 i1 j0 j1 => by
  have h1 := H.2.2.2 i j i0 i1 j0
  unfold tC
  split
  · omega
  · have := h1 (by omega)
    split <;> omega
theorem XT.v9 (H : XT E xo n m h sn sm sh w) (i j : Int) (i0 : 0 ≤ i) (i1 : i < n) (j0 : 0 ≤ j) (j1 : j < n) : tC m h i j ≤ 99 ∨ tC m h i j = 1000 := by
  have h1 := H.2.2.1 i j i0 i1 j0
  by_cases hm : j < m
  · exact tC_v (h1 hm)
  · unfold tC; rw [if_pos (by omega)]; exact Or.inl (by omega)
theorem OPT.zb {u v co ro : Int → Int} (H : OPT n.toNat C u v co ro) (hn : 1 ≤ n ∧ n ≤ 7) (hC : bD C n) : 0 ≤ sm' n.toNat u + sm' n.toNat v ∧ sm' n.toNat u + sm' n.toNat v ≤ 70000 := by
  rw [← H.ret]
  have h1 : ∀ i : Int, 0 ≤ i → i < n.toNat → 0 ≤ C i (co i) ∧ C i (co i) ≤ 10000 := fun i i0 i1 => by
    have := (H.2.1 i i0 i1).1
    exact hC i (co i) i0 (by omega) this.1 (by omega)
  have h2 := sm_b0 (f := fun i => C i (co i)) n.toNat (fun i i0 i1 => (h1 i i0 i1).1)
  have h3 := sm_mono (f := fun i => C i (co i)) (g := fun _ => 10000) (k := n.toNat) (fun i i0 i1 => (h1 i i0 i1).2)
  rw [sm_k] at h3
  omega
theorem c_o_minimum (hH : XX E xo b n m h sn sm sh e w)  : Call E mX1_minimum 12 686 4655 [vR xo] w (qI (fun r w' => r = (LK n m h).1 ∧ XX E xo b n m h sn sm sh e w' ∧ Gr (fun a _ => ZX xo b w a) w w')) := by
  refine call_of (av := [(1, xo)]) (by decide +kernel) rfl (Nat.le_of_ble_eq_true rfl) ?_
  intro X hX hF hname
  show GG X 686 4655 w 0 [(1, xo)] []
  have hS := SB.rf hH
  have hV := hH.1
  have hn := hH.2.2.1.1.2.1
  have hnb : 1 ≤ n ∧ n ≤ 7 := by omega
  have hC := hH.2.2.1.bCn
  refine g_aload_n (pc' := 1) hX dX1_minimum_0 rfl rfl ?_
  refine gV0U0 (pc' := 4) hX dX1_minimum_1 ml_X1_284 gc_X1 hV.h0 hV.hk (c_s_load hS.1) (Nat.le_of_ble_eq_true rfl) (by decide) rfl (fun w1 q1 => ?_)
  obtain ⟨-, hFl, h6, hA⟩ := q1
  have hS := hS.ld hFl
  have hV := hS.1.1
  refine g_aload_n (pc' := 5) hX dX1_minimum_4 rfl rfl ?_
  refine gV0I (pc' := 8) hX dX1_minimum_5 ml_X1_286 gc_X1 hV.h0 hV.hk (c_s_solve (n := n) hS.1.1 hS.1.2.2.2.1 h6 hnb hA hC.bD) (Nat.le_of_ble_eq_true rfl) (by decide) ⟨by omega, by omega⟩ rfl (fun r5 w5 q5 => ?_)
  obtain ⟨-, hGs, hQs, hOP, hrs, hHU⟩ := q5
  have hS := hS.zu hGs hQs
  have hV := hS.1.1
  have hans := hrs.trans (OB_min hnb hC hOP.min).symm
  exact g_retI hX hF dX1_minimum_8 ⟨hans, hS.1, hS.gx hH.1⟩

theorem c_o_savedMinimum (hH : XX E xo b n m h sn sm sh e w) : Call E mX1_savedMinimum 12 686 4655 [vR xo] w (qI (fun r w' => r = (LK sn sm sh).1 ∧ XX E xo b n m h sn sm sh e w' ∧ Gr (fun a _ => ZX xo b w a) w w')) := by
  refine call_of (av := [(1, xo)]) (by decide +kernel) rfl (Nat.le_of_ble_eq_true rfl) ?_
  intro X hX hF hname
  show GG X 686 4655 w 0 [(1, xo)] []
  have hS := SB.rf hH
  have hV := hH.1
  have hn := hH.2.2.1.1.2.1
  have hnb : 1 ≤ n ∧ n ≤ 7 := by omega
  have hC := hH.2.2.1.bCn
  have hsn := hH.2.2.1.1.2.2
  have hC2 := hH.2.2.1.bCs
  refine g_aload_n (pc' := 1) hX dX1_savedMinimum_0 rfl rfl ?_
  refine g_aload_n (pc' := 2) hX dX1_savedMinimum_1 rfl rfl ?_
  refine gf_X1_30 (pc' := 5) hX dX1_savedMinimum_2 hV.h0 hV.hk rfl ?_
  rw [show rdw w xo 5 = rdw w xo 5 from rfl]
  refine g_aload_n (pc' := 6) hX dX1_savedMinimum_5 rfl rfl ?_
  refine gf_X1_24 (pc' := 9) hX dX1_savedMinimum_6 hV.h0 hV.hk rfl ?_
  rw [hH.2.2.1.1.1.2.2.1]
  refine g_aload_n (pc' := 10) hX dX1_savedMinimum_9 rfl rfl ?_
  refine gf_X1_27 (pc' := 13) hX dX1_savedMinimum_10 hV.h0 hV.hk rfl ?_
  rw [hH.2.2.1.1.1.2.2.2]
  refine gV3U0 (pc' := 16) hX dX1_savedMinimum_13 ml_X1_240 gc_X1 hV.h0 hV.hk (c_s_load2 hH.1 hH.2.1 hH.2.2.1.2.1.2.1 ⟨hsn.1, hsn.2.1, hsn.2.2⟩ hH.2.2.1.2.2.2) (Nat.le_of_ble_eq_true rfl) (by decide) rfl (fun w13 q13 => ?_)
  obtain ⟨-, hFl, h6, hA⟩ := q13
  have hS := hS.ld hFl
  have hV := hS.1.1
  refine g_aload_n (pc' := 17) hX dX1_savedMinimum_16 rfl rfl ?_
  refine gV0I (pc' := 20) hX dX1_savedMinimum_17 ml_X1_286 gc_X1 hV.h0 hV.hk (c_s_solve (n := sn) hS.1.1 hS.1.2.2.2.1 h6 (by omega) hA hC2.bD) (Nat.le_of_ble_eq_true rfl) (by decide) ⟨by omega, by omega⟩ rfl (fun r17 w17 q17 => ?_)
  obtain ⟨-, hGs, hQs, hOP, hrs, hHU⟩ := q17
  have hS := hS.zu hGs hQs
  have hans := hrs.trans (OB_min (by omega) hC2 hOP.min).symm
  exact g_retI hX hF dX1_savedMinimum_20 ⟨hans, hS.1, hS.gx hH.1⟩

theorem c_o_minimumWith (hH : XX E xo b n m h sn sm sh e w) (br : -2147483648 ≤ r ∧ r ≤ 2147483647) (bc : -2147483648 ≤ c ∧ c ≤ 2147483647)  : Call E mX1_minimumWith 12 688 4667 [vR xo, vI r, vI c] w (qC (if 0 ≤ r ∧ r ≤ n - 1 ∧ 0 ≤ c ∧ c ≤ n - 1 then 0 else 1) (LW n m h (7 * r + c)) (fun w' => XX E xo b n m h sn sm sh e w' ∧ Gr (fun a _ => ZX xo b w a) w w') w) := by
  refine call_of (av := [(1, xo), (0, r), (0, c)]) (by decide +kernel) rfl (Nat.le_of_ble_eq_true rfl) ?_
  intro X hX hF hname
  show GG X 688 4667 w 0 [(1, xo), (0, r), (0, c), (9, 0)] []
  have hS := SB.rf hH
  have hV := hH.1
  have hn := hH.2.2.1.1.2.1
  have hnb : 1 ≤ n ∧ n ≤ 7 := by omega
  have hC := hH.2.2.1.bCn
  refine g_aload_n (pc' := 1) hX dX1_minimumWith_0 rfl rfl ?_
  refine g_iload_n (pc' := 2) hX dX1_minimumWith_1 rfl rfl ?_
  refine gV1E0 (pc' := 5) hX dX1_minimumWith_2 ml_X1_169 gc_X1 hV.h0 hV.hk (c_k_isRow hV hS.1.2.2.1.1.1.1 (by omega) (by omega)) (Nat.le_of_ble_eq_true rfl) (by decide) rfl ?_
  refine g_if_eq (pc' := 8) (tgt := 20) hX dX1_minimumWith_5 (by decide) rfl (by omega) (fun h5 => ?_) (fun h5 => ?_)
  · skip
    refine g_iconst (pc' := 21) hX dX1_minimumWith_20 rfl ?_
    refine gS1UX (pc' := 24) hX dX1_minimumWith_21 ml_X1_176 (c_k_needPlace (by omega)) (Nat.le_of_ble_eq_true rfl) (by decide) ⟨by omega, by omega⟩ rfl (fun w2 q => absurd q.1 (by decide)) (fun k2 w2 hk0 hq => ?_)
    obtain ⟨rfl, hz21, hG21⟩ := hq
    exact g_outX hX hF hk0 ⟨by (repeat' split) <;> omega, hG21⟩
  · skip
    refine g_aload_n (pc' := 9) hX dX1_minimumWith_8 rfl rfl ?_
    refine g_iload_n (pc' := 10) hX dX1_minimumWith_9 rfl rfl ?_
    refine gV1E0 (pc' := 13) hX dX1_minimumWith_10 ml_X1_169 gc_X1 hV.h0 hV.hk (c_k_isRow hV hS.1.2.2.1.1.1.1 (by omega) (by omega)) (Nat.le_of_ble_eq_true rfl) (by decide) rfl ?_
    refine g_if_eq (pc' := 16) (tgt := 20) hX dX1_minimumWith_13 (by decide) rfl (by omega) (fun h13 => ?_) (fun h13 => ?_)
    · skip
      refine g_iconst (pc' := 21) hX dX1_minimumWith_20 rfl ?_
      refine gS1UX (pc' := 24) hX dX1_minimumWith_21 ml_X1_176 (c_k_needPlace (by omega)) (Nat.le_of_ble_eq_true rfl) (by decide) ⟨by omega, by omega⟩ rfl (fun w2 q => absurd q.1 (by decide)) (fun k2 w2 hk0 hq => ?_)
      obtain ⟨rfl, hz21, hG21⟩ := hq
      exact g_outX hX hF hk0 ⟨by (repeat' split) <;> omega, hG21⟩
    · skip
      refine g_iconst (pc' := 17) hX dX1_minimumWith_16 rfl ?_
      refine g_goto (tgt := 21) hX dX1_minimumWith_17 (by decide) ?_
      refine gS1UX (pc' := 24) hX dX1_minimumWith_21 ml_X1_176 (c_k_needPlace (by omega)) (Nat.le_of_ble_eq_true rfl) (by decide) ⟨by omega, by omega⟩ rfl (fun w21 q21 => ?_) (fun k2 w2 hk0 hq => absurd hq.2.1 (by decide))
      obtain ⟨-, hw21⟩ := q21
      rw [hw21]
      refine g_aload_n (pc' := 25) hX dX1_minimumWith_24 rfl rfl ?_
      refine gV0U0 (pc' := 28) hX dX1_minimumWith_25 ml_X1_284 gc_X1 hV.h0 hV.hk (c_s_load hS.1) (Nat.le_of_ble_eq_true rfl) (by decide) rfl (fun w25 q25 => ?_)
      obtain ⟨-, hFl, h6, hA⟩ := q25
      have hS := hS.ld hFl
      have hV := hS.1.1
      refine g_iconst (pc' := 29) hX dX1_minimumWith_28 rfl ?_
      refine g_istore_n_3 (pc' := 30) hX dX1_minimumWith_29 (by decide) rfl rfl ?_
      have loop : ∀ (f : Nat) (j : Int) (u : Wd), 0 ≤ j → j ≤ n → SB E xo b n m h sn sm sh e w u → rdw u xo 6 = n → (∀ p q : Int, 0 ≤ p → p < n → 0 ≤ q → q < n → rdw u (b + 1 + p) q = if p = r ∧ q < j ∧ q ≠ c then 10000 else tC m h p q) → n < j + f → GG X 686 4655 u 30 [(1, xo), (0, r), (0, c), (0, j)] [] := by
        intro f
        induction f with
        | zero => intro j u j0 j1 hS h6 hA hf; exact absurd hf (by omega)
        | succ f ih =>
          intro j u j0 j1 hS h6 hA hf
          have hV := hS.1.1
          refine g_iload_n (pc' := 31) hX dX1_minimumWith_30 rfl rfl ?_
          refine g_aload_n (pc' := 32) hX dX1_minimumWith_31 rfl rfl ?_
          refine gf_X1_7 (pc' := 35) hX dX1_minimumWith_32 hV.h0 hV.hk rfl ?_
          rw [hS.1.2.2.1.1.1.1]
          refine g_icmp_ge (pc' := 38) (tgt := 71) hX dX1_minimumWith_35 (by decide) rfl (by omega) (by omega) (fun h35 => ?_) (fun h35 => ?_)
          · skip
            refine g_aload_n (pc' := 72) hX dX1_minimumWith_71 rfl rfl ?_
            refine gV0I (pc' := 75) hX dX1_minimumWith_72 ml_X1_286 gc_X1 hV.h0 hV.hk (c_s_solve (n := n) hS.1.1 hS.1.2.2.2.1 h6 hnb (C := fun i j => if i = r ∧ j ≠ c then 10000 else tC m h i j) (fun p q p0 p1 q0 q1 => by rw [hA p q p0 p1 q0 q1]; (repeat' split) <;> first | rfl | (exfalso; omega)) (fun i j i0 i1 j0 j1 => by have := hC i j i0 i1 j0 j1; show 0 ≤ (if i = r ∧ j ≠ c then (10000 : Int) else tC m h i j) ∧ (if i = r ∧ j ≠ c then (10000 : Int) else tC m h i j) ≤ 10000; split <;> omega)) (Nat.le_of_ble_eq_true rfl) (by decide) ⟨by omega, by omega⟩ rfl (fun r72 w72 q72 => ?_)
            obtain ⟨-, hGs, hQs, hOP, hrs, hHU⟩ := q72
            have hS := hS.zu hGs hQs
            have hV := hS.1.1
            have hans := hrs.trans (OB_with (r := r) (c := c) hnb hC (by omega) (by omega) hOP.min).symm
            exact g_retIX hX hF dX1_minimumWith_75 ⟨by (repeat' split) <;> omega, hans, hS.1, hS.gx hH.1⟩
          · skip
            refine g_aload_n (pc' := 39) hX dX1_minimumWith_38 rfl rfl ?_
            refine gf_X1_35 (pc' := 42) hX dX1_minimumWith_39 hV.h0 hV.hk rfl ?_
            rw [hV.f 7 (by decide) (show xF 7 = 0 from rfl)]
            refine g_iload_n (pc' := 43) hX dX1_minimumWith_42 rfl rfl ?_
            refine g_aaldL (pc' := 44) hX dX1_minimumWith_43 (by have := hV.b0; omega) (by rw [hV.kk 0 (by decide) (show xK b 0 = 54 from rfl)]; decide) (hV.ln 0 (by decide) (show xL 0 = 7 from rfl)) (by omega) rfl ?_
            rw [hV.c0 (by omega)]
            refine g_iload_n (pc' := 45) hX dX1_minimumWith_44 rfl rfl ?_
            refine g_iload_n (pc' := 46) hX dX1_minimumWith_45 rfl rfl ?_
            refine g_iload_n (pc' := 47) hX dX1_minimumWith_46 rfl rfl ?_
            refine g_icmp_ne (pc' := 50) (tgt := 61) hX dX1_minimumWith_47 (by decide) rfl (by omega) (by omega) (fun h47 => ?_) (fun h47 => ?_)
            · skip
              refine g_sipush (pc' := 64) hX dX1_minimumWith_61 rfl rfl ?_
              refine g_iastL (pc' := 65) hX dX1_minimumWith_64 (by have := hV.hbb; omega) (hV.ck (by omega)) (hV.cl (by omega)) (by omega) rfl ?_
              refine hS.upc (by omega) (fun u2 hS g2 h62 => ?_)
              refine g_iinc_3 (pc' := 68) hX dX1_minimumWith_65 (by decide) rfl rfl ?_
              refine g_goto (tgt := 30) hX dX1_minimumWith_68 (by decide) ?_
              refine ih (j + 1) u2 (by omega) (by omega) hS (by rw [h62]; exact h6) (fun p q p0 p1 q0 q1 => ?_) (by omega)
              rw [g2 p q, hA p q p0 p1 q0 q1]
              by_cases hp : p = r ∧ q = j
              · rw [if_pos hp]
                first
                  | rw [if_neg (by omega), hp.1, hp.2]
                  | rw [if_pos (by omega)]
              · rw [if_neg hp]
                (repeat' split) <;> first | rfl | (exfalso; omega)
            · skip
              refine g_aload_n (pc' := 51) hX dX1_minimumWith_50 rfl rfl ?_
              refine gf_X1_35 (pc' := 54) hX dX1_minimumWith_51 hV.h0 hV.hk rfl ?_
              rw [hV.f 7 (by decide) (show xF 7 = 0 from rfl)]
              refine g_iload_n (pc' := 55) hX dX1_minimumWith_54 rfl rfl ?_
              refine g_aaldL (pc' := 56) hX dX1_minimumWith_55 (by have := hV.b0; omega) (by rw [hV.kk 0 (by decide) (show xK b 0 = 54 from rfl)]; decide) (hV.ln 0 (by decide) (show xL 0 = 7 from rfl)) (by omega) rfl ?_
              rw [hV.c0 (by omega)]
              refine g_iload_n (pc' := 57) hX dX1_minimumWith_56 rfl rfl ?_
              refine g_ialdL (pc' := 58) hX dX1_minimumWith_57 (by have := hV.b0; omega) (hV.ck (by omega)) (hV.cl (by omega)) (by omega) rfl ?_
              rw [hA r j (by omega) (by omega) j0 (by omega), if_neg (by omega)]
              refine g_goto (tgt := 64) hX dX1_minimumWith_58 (by decide) ?_
              refine g_iastL (pc' := 65) hX dX1_minimumWith_64 (by have := hV.hbb; omega) (hV.ck (by omega)) (hV.cl (by omega)) (by omega) rfl ?_
              refine hS.upc (by omega) (fun u2 hS g2 h62 => ?_)
              refine g_iinc_3 (pc' := 68) hX dX1_minimumWith_65 (by decide) rfl rfl ?_
              refine g_goto (tgt := 30) hX dX1_minimumWith_68 (by decide) ?_
              refine ih (j + 1) u2 (by omega) (by omega) hS (by rw [h62]; exact h6) (fun p q p0 p1 q0 q1 => ?_) (by omega)
              rw [g2 p q, hA p q p0 p1 q0 q1]
              by_cases hp : p = r ∧ q = j
              · rw [if_pos hp]
                first
                  | rw [if_neg (by omega), hp.1, hp.2]
                  | rw [if_pos (by omega)]
              · rw [if_neg hp]
                (repeat' split) <;> first | rfl | (exfalso; omega)
      exact GG_less (loop 100 0 _ (by omega) (by omega) hS h6 (fun p q p0 p1 q0 q1 => by rw [if_neg (by omega)]; exact hA p q p0 p1 q0 q1) (by omega)) (by omega) (by omega)

theorem c_o_minimumWithout (hH : XX E xo b n m h sn sm sh e w) (br : -2147483648 ≤ r ∧ r ≤ 2147483647) (bc : -2147483648 ≤ c ∧ c ≤ 2147483647)  : Call E mX1_minimumWithout 12 688 4667 [vR xo, vI r, vI c] w (qC (if 0 ≤ r ∧ r ≤ n - 1 ∧ 0 ≤ c ∧ c ≤ n - 1 then 0 else 1) (if n = 1 then -1 else woF (fun k => LW n m h (7 * r + k)) c n.toNat) (fun w' => XX E xo b n m h sn sm sh e w' ∧ Gr (fun a _ => ZX xo b w a) w w') w) := by
  refine call_of (av := [(1, xo), (0, r), (0, c)]) (by decide +kernel) rfl (Nat.le_of_ble_eq_true rfl) ?_
  intro X hX hF hname
  show GG X 688 4667 w 0 [(1, xo), (0, r), (0, c)] []
  have hS := SB.rf hH
  have hV := hH.1
  have hn := hH.2.2.1.1.2.1
  have hnb : 1 ≤ n ∧ n ≤ 7 := by omega
  have hC := hH.2.2.1.bCn
  refine g_aload_n (pc' := 1) hX dX1_minimumWithout_0 rfl rfl ?_
  refine g_iload_n (pc' := 2) hX dX1_minimumWithout_1 rfl rfl ?_
  refine gV1E0 (pc' := 5) hX dX1_minimumWithout_2 ml_X1_169 gc_X1 hV.h0 hV.hk (c_k_isRow hV hS.1.2.2.1.1.1.1 (by omega) (by omega)) (Nat.le_of_ble_eq_true rfl) (by decide) rfl ?_
  refine g_if_eq (pc' := 8) (tgt := 20) hX dX1_minimumWithout_5 (by decide) rfl (by omega) (fun h5 => ?_) (fun h5 => ?_)
  · skip
    refine g_iconst (pc' := 21) hX dX1_minimumWithout_20 rfl ?_
    refine gS1UX (pc' := 24) hX dX1_minimumWithout_21 ml_X1_176 (c_k_needPlace (by omega)) (Nat.le_of_ble_eq_true rfl) (by decide) ⟨by omega, by omega⟩ rfl (fun w2 q => absurd q.1 (by decide)) (fun k2 w2 hk0 hq => ?_)
    obtain ⟨rfl, hz21, hG21⟩ := hq
    exact g_outX hX hF hk0 ⟨by (repeat' split) <;> omega, hG21⟩
  · skip
    refine g_aload_n (pc' := 9) hX dX1_minimumWithout_8 rfl rfl ?_
    refine g_iload_n (pc' := 10) hX dX1_minimumWithout_9 rfl rfl ?_
    refine gV1E0 (pc' := 13) hX dX1_minimumWithout_10 ml_X1_169 gc_X1 hV.h0 hV.hk (c_k_isRow hV hS.1.2.2.1.1.1.1 (by omega) (by omega)) (Nat.le_of_ble_eq_true rfl) (by decide) rfl ?_
    refine g_if_eq (pc' := 16) (tgt := 20) hX dX1_minimumWithout_13 (by decide) rfl (by omega) (fun h13 => ?_) (fun h13 => ?_)
    · skip
      refine g_iconst (pc' := 21) hX dX1_minimumWithout_20 rfl ?_
      refine gS1UX (pc' := 24) hX dX1_minimumWithout_21 ml_X1_176 (c_k_needPlace (by omega)) (Nat.le_of_ble_eq_true rfl) (by decide) ⟨by omega, by omega⟩ rfl (fun w2 q => absurd q.1 (by decide)) (fun k2 w2 hk0 hq => ?_)
      obtain ⟨rfl, hz21, hG21⟩ := hq
      exact g_outX hX hF hk0 ⟨by (repeat' split) <;> omega, hG21⟩
    · skip
      refine g_iconst (pc' := 17) hX dX1_minimumWithout_16 rfl ?_
      refine g_goto (tgt := 21) hX dX1_minimumWithout_17 (by decide) ?_
      refine gS1UX (pc' := 24) hX dX1_minimumWithout_21 ml_X1_176 (c_k_needPlace (by omega)) (Nat.le_of_ble_eq_true rfl) (by decide) ⟨by omega, by omega⟩ rfl (fun w21 q21 => ?_) (fun k2 w2 hk0 hq => absurd hq.2.1 (by decide))
      obtain ⟨-, hw21⟩ := q21
      rw [hw21]
      refine g_aload_n (pc' := 25) hX dX1_minimumWithout_24 rfl rfl ?_
      refine gf_X1_7 (pc' := 28) hX dX1_minimumWithout_25 hV.h0 hV.hk rfl ?_
      rw [hS.1.2.2.1.1.1.1]
      refine g_iconst (pc' := 29) hX dX1_minimumWithout_28 rfl ?_
      refine g_icmp_ne (pc' := 32) (tgt := 34) hX dX1_minimumWithout_29 (by decide) rfl (by omega) (by omega) (fun h29 => ?_) (fun h29 => ?_)
      · skip
        refine g_aload_n (pc' := 35) hX dX1_minimumWithout_34 rfl rfl ?_
        refine gV0U0 (pc' := 38) hX dX1_minimumWithout_35 ml_X1_284 gc_X1 hV.h0 hV.hk (c_s_load hS.1) (Nat.le_of_ble_eq_true rfl) (by decide) rfl (fun w35 q35 => ?_)
        obtain ⟨-, hFl, h6, hA⟩ := q35
        have hS := hS.ld hFl
        have hV := hS.1.1
        refine g_aload_n (pc' := 39) hX dX1_minimumWithout_38 rfl rfl ?_
        refine gf_X1_35 (pc' := 42) hX dX1_minimumWithout_39 hV.h0 hV.hk rfl ?_
        rw [hV.f 7 (by decide) (show xF 7 = 0 from rfl)]
        refine g_iload_n (pc' := 43) hX dX1_minimumWithout_42 rfl rfl ?_
        refine g_aaldL (pc' := 44) hX dX1_minimumWithout_43 (by have := hV.b0; omega) (by rw [hV.kk 0 (by decide) (show xK b 0 = 54 from rfl)]; decide) (hV.ln 0 (by decide) (show xL 0 = 7 from rfl)) (by omega) rfl ?_
        rw [hV.c0 (by omega)]
        refine g_iload_n (pc' := 45) hX dX1_minimumWithout_44 rfl rfl ?_
        refine g_sipush (pc' := 48) hX dX1_minimumWithout_45 rfl rfl ?_
        refine g_iastL (pc' := 49) hX dX1_minimumWithout_48 (by have := hV.hbb; omega) (hV.ck (by omega)) (hV.cl (by omega)) (by omega) rfl ?_
        refine hS.upc (by omega) (fun u2 hS g2 h62 => ?_)
        have hV := hS.1.1
        have h6 := h62.trans h6
        have hA2 : ∀ p q : Int, 0 ≤ p → p < n → 0 ≤ q → q < n → rdw u2 (b + 1 + p) q = (fun i j => if i = r ∧ j = c then 10000 else tC m h i j) p q := fun p q p0 p1 q0 q1 => by
          rw [g2 p q, hA p q p0 p1 q0 q1]
        refine g_aload_n (pc' := 50) hX dX1_minimumWithout_49 rfl rfl ?_
        refine gV0I (pc' := 53) hX dX1_minimumWithout_50 ml_X1_286 gc_X1 hV.h0 hV.hk (c_s_solve (n := n) hS.1.1 hS.1.2.2.2.1 h6 hnb hA2 (fun i j i0 i1 j0 j1 => by have := hC i j i0 i1 j0 j1; show 0 ≤ (if i = r ∧ j = c then (10000 : Int) else tC m h i j) ∧ (if i = r ∧ j = c then (10000 : Int) else tC m h i j) ≤ 10000; split <;> omega)) (Nat.le_of_ble_eq_true rfl) (by decide) ⟨by omega, by omega⟩ rfl (fun r50 w50 q50 => ?_)
        obtain ⟨-, hGs, hQs, hOP, hrs, hHU⟩ := q50
        have hS := hS.zu hGs hQs
        have hV := hS.1.1
        have hans : r50 = if n = 1 then -1 else woF (fun k => LW n m h (7 * r + k)) c n.toNat := by
          rw [if_neg (by omega)]
          exact hrs.trans (OB_without (r := r) (c := c) hnb hC (by omega) (by omega) (by omega) hOP.min).symm
        exact g_retIX hX hF dX1_minimumWithout_53 ⟨by (repeat' split) <;> omega, hans, hS.1, hS.gx hH.1⟩
      · skip
        refine g_iconst (pc' := 33) hX dX1_minimumWithout_32 rfl ?_
        exact g_retIX hX hF dX1_minimumWithout_33 ⟨by (repeat' split) <;> omega, by rw [if_pos (by omega)], hS.1, hS.gx hH.1⟩

theorem c_o_minimumIfCost (hH : XX E xo b n m h sn sm sh e w) (br : -2147483648 ≤ r ∧ r ≤ 2147483647) (bc : -2147483648 ≤ c ∧ c ≤ 2147483647) (bv : -2147483648 ≤ v ∧ v ≤ 2147483647)  : Call E mX1_minimumIfCost 12 688 4667 [vR xo, vI r, vI c, vI v] w (qC (if ¬ (0 ≤ r ∧ r ≤ n - 1 ∧ 0 ≤ c ∧ c ≤ m - 1) then 1 else if ¬ (0 ≤ v ∧ v ≤ 99 ∨ v = 1000) then 2 else 0) ((lkF (fun i j => if i = r ∧ j = c then v else tC m h i j) (pmN n.toNat)).1) (fun w' => XX E xo b n m h sn sm sh e w' ∧ Gr (fun a _ => ZX xo b w a) w w') w) := by
  refine call_of (av := [(1, xo), (0, r), (0, c), (0, v)]) (by decide +kernel) rfl (Nat.le_of_ble_eq_true rfl) ?_
  intro X hX hF hname
  show GG X 688 4667 w 0 [(1, xo), (0, r), (0, c), (0, v)] []
  have hS := SB.rf hH
  have hV := hH.1
  have hn := hH.2.2.1.1.2.1
  have hnb : 1 ≤ n ∧ n ≤ 7 := by omega
  have hC := hH.2.2.1.bCn
  refine g_aload_n (pc' := 1) hX dX1_minimumIfCost_0 rfl rfl ?_
  refine g_iload_n (pc' := 2) hX dX1_minimumIfCost_1 rfl rfl ?_
  refine gV1E0 (pc' := 5) hX dX1_minimumIfCost_2 ml_X1_169 gc_X1 hV.h0 hV.hk (c_k_isRow hV hS.1.2.2.1.1.1.1 (by omega) (by omega)) (Nat.le_of_ble_eq_true rfl) (by decide) rfl ?_
  refine g_if_eq (pc' := 8) (tgt := 20) hX dX1_minimumIfCost_5 (by decide) rfl (by omega) (fun h5 => ?_) (fun h5 => ?_)
  · skip
    refine g_iconst (pc' := 21) hX dX1_minimumIfCost_20 rfl ?_
    refine gS1UX (pc' := 24) hX dX1_minimumIfCost_21 ml_X1_176 (c_k_needPlace (by omega)) (Nat.le_of_ble_eq_true rfl) (by decide) ⟨by omega, by omega⟩ rfl (fun w2 q => absurd q.1 (by decide)) (fun k2 w2 hk0 hq => ?_)
    obtain ⟨rfl, hz21, hG21⟩ := hq
    exact g_outX hX hF hk0 ⟨by (repeat' split) <;> omega, hG21⟩
  · skip
    refine g_aload_n (pc' := 9) hX dX1_minimumIfCost_8 rfl rfl ?_
    refine g_iload_n (pc' := 10) hX dX1_minimumIfCost_9 rfl rfl ?_
    refine gV1E0 (pc' := 13) hX dX1_minimumIfCost_10 ml_X1_173 gc_X1 hV.h0 hV.hk (c_k_isReal hV hS.1.2.2.1.1.1.2.1 (by omega) (by omega)) (Nat.le_of_ble_eq_true rfl) (by decide) rfl ?_
    refine g_if_eq (pc' := 16) (tgt := 20) hX dX1_minimumIfCost_13 (by decide) rfl (by omega) (fun h13 => ?_) (fun h13 => ?_)
    · skip
      refine g_iconst (pc' := 21) hX dX1_minimumIfCost_20 rfl ?_
      refine gS1UX (pc' := 24) hX dX1_minimumIfCost_21 ml_X1_176 (c_k_needPlace (by omega)) (Nat.le_of_ble_eq_true rfl) (by decide) ⟨by omega, by omega⟩ rfl (fun w2 q => absurd q.1 (by decide)) (fun k2 w2 hk0 hq => ?_)
      obtain ⟨rfl, hz21, hG21⟩ := hq
      exact g_outX hX hF hk0 ⟨by (repeat' split) <;> omega, hG21⟩
    · skip
      refine g_iconst (pc' := 17) hX dX1_minimumIfCost_16 rfl ?_
      refine g_goto (tgt := 21) hX dX1_minimumIfCost_17 (by decide) ?_
      refine gS1UX (pc' := 24) hX dX1_minimumIfCost_21 ml_X1_176 (c_k_needPlace (by omega)) (Nat.le_of_ble_eq_true rfl) (by decide) ⟨by omega, by omega⟩ rfl (fun w21 q21 => ?_) (fun k2 w2 hk0 hq => absurd hq.2.1 (by decide))
      obtain ⟨-, hw21⟩ := q21
      rw [hw21]
      refine g_iload_n (pc' := 25) hX dX1_minimumIfCost_24 rfl rfl ?_
      refine g_i2l (pc' := 26) hX dX1_minimumIfCost_25 (by omega) rfl ?_
      refine g_lconst (pc' := 27) (v := 0) hX dX1_minimumIfCost_26 rfl rfl ?_
      refine g_ldc2 (pc' := 30) (n := 99) hX dX1_minimumIfCost_27 q1049 rfl rfl ?_
      refine gS3E0 (pc' := 33) hX dX1_minimumIfCost_30 ml_X1_127 (c_k_isIn (by omega) (by omega) (by omega)) (Nat.le_of_ble_eq_true rfl) (by decide) rfl ?_
      refine g_if_ne (pc' := 36) (tgt := 43) hX dX1_minimumIfCost_33 (by decide) rfl (by omega) (fun h33 => ?_) (fun h33 => ?_)
      · skip
        refine g_iconst (pc' := 44) hX dX1_minimumIfCost_43 rfl ?_
        refine g_goto (tgt := 48) hX dX1_minimumIfCost_44 (by decide) ?_
        refine gS1UX (pc' := 51) hX dX1_minimumIfCost_48 ml_X1_162 (c_k_needNumber (by omega)) (Nat.le_of_ble_eq_true rfl) (by decide) ⟨by omega, by omega⟩ rfl (fun w48 q48 => ?_) (fun k2 w2 hk0 hq => absurd hq.2.1 (by decide))
        obtain ⟨-, hw48⟩ := q48
        rw [hw48]
        refine g_aload_n (pc' := 52) hX dX1_minimumIfCost_51 rfl rfl ?_
        refine gV0U0 (pc' := 55) hX dX1_minimumIfCost_52 ml_X1_284 gc_X1 hV.h0 hV.hk (c_s_load hS.1) (Nat.le_of_ble_eq_true rfl) (by decide) rfl (fun w52 q52 => ?_)
        obtain ⟨-, hFl, h6, hA⟩ := q52
        have hS := hS.ld hFl
        have hV := hS.1.1
        refine g_aload_n (pc' := 56) hX dX1_minimumIfCost_55 rfl rfl ?_
        refine gf_X1_35 (pc' := 59) hX dX1_minimumIfCost_56 hV.h0 hV.hk rfl ?_
        rw [hV.f 7 (by decide) (show xF 7 = 0 from rfl)]
        refine g_iload_n (pc' := 60) hX dX1_minimumIfCost_59 rfl rfl ?_
        refine g_aaldL (pc' := 61) hX dX1_minimumIfCost_60 (by have := hV.b0; omega) (by rw [hV.kk 0 (by decide) (show xK b 0 = 54 from rfl)]; decide) (hV.ln 0 (by decide) (show xL 0 = 7 from rfl)) (by omega) rfl ?_
        rw [hV.c0 (by omega)]
        refine g_iload_n (pc' := 62) hX dX1_minimumIfCost_61 rfl rfl ?_
        refine g_iload_n (pc' := 63) hX dX1_minimumIfCost_62 rfl rfl ?_
        refine g_iastL (pc' := 64) hX dX1_minimumIfCost_63 (by have := hV.hbb; omega) (hV.ck (by omega)) (hV.cl (by omega)) (by omega) rfl ?_
        refine hS.upc (by omega) (fun u2 hS g2 h62 => ?_)
        have hV := hS.1.1
        have h6 := h62.trans h6
        have hA2 : ∀ p q : Int, 0 ≤ p → p < n → 0 ≤ q → q < n → rdw u2 (b + 1 + p) q = (fun i j => if i = r ∧ j = c then v else tC m h i j) p q := fun p q p0 p1 q0 q1 => by
          rw [g2 p q, hA p q p0 p1 q0 q1]
        have hC2 : bC (fun i j => if i = r ∧ j = c then v else tC m h i j) n := fun i j i0 i1 j0 j1 => by
          have := hC i j i0 i1 j0 j1
          show 0 ≤ (if i = r ∧ j = c then v else tC m h i j) ∧ (if i = r ∧ j = c then v else tC m h i j) ≤ 1000
          split <;> omega
        refine g_aload_n (pc' := 65) hX dX1_minimumIfCost_64 rfl rfl ?_
        refine gV0I (pc' := 68) hX dX1_minimumIfCost_65 ml_X1_286 gc_X1 hV.h0 hV.hk (c_s_solve (n := n) hS.1.1 hS.1.2.2.2.1 h6 hnb hA2 hC2.bD) (Nat.le_of_ble_eq_true rfl) (by decide) ⟨by omega, by omega⟩ rfl (fun r65 w65 q65 => ?_)
        obtain ⟨-, hGs, hQs, hOP, hrs, hHU⟩ := q65
        have hS := hS.zu hGs hQs
        have hV := hS.1.1
        have hans := hrs.trans (hOP.min.uniq (lkF_mn (n := n.toNat) (C := fun i j => if i = r ∧ j = c then v else tC m h i j) (by omega) (fun σ hσ => by have := (pm_bnd (n := n.toNat) (C := fun i j => if i = r ∧ j = c then v else tC m h i j) (by omega) (by rw [Int.toNat_of_nonneg (by omega)]; exact hC2) σ hσ).1; omega)).1)
        exact g_retIX hX hF dX1_minimumIfCost_68 ⟨by (repeat' split) <;> omega, hans, hS.1, hS.gx hH.1⟩
      · skip
        refine g_iload_n (pc' := 37) hX dX1_minimumIfCost_36 rfl rfl ?_
        refine g_sipush (pc' := 40) hX dX1_minimumIfCost_37 rfl rfl ?_
        refine g_icmp_ne (pc' := 43) (tgt := 47) hX dX1_minimumIfCost_40 (by decide) rfl (by omega) (by omega) (fun h40 => ?_) (fun h40 => ?_)
        · skip
          refine g_iconst (pc' := 48) hX dX1_minimumIfCost_47 rfl ?_
          refine gS1UX (pc' := 51) hX dX1_minimumIfCost_48 ml_X1_162 (c_k_needNumber (by omega)) (Nat.le_of_ble_eq_true rfl) (by decide) ⟨by omega, by omega⟩ rfl (fun w2 q => absurd q.1 (by decide)) (fun k2 w2 hk0 hq => ?_)
          obtain ⟨rfl, hz48, hG48⟩ := hq
          exact g_outX hX hF hk0 ⟨by (repeat' split) <;> omega, hG48⟩
        · skip
          refine g_iconst (pc' := 44) hX dX1_minimumIfCost_43 rfl ?_
          refine g_goto (tgt := 48) hX dX1_minimumIfCost_44 (by decide) ?_
          refine gS1UX (pc' := 51) hX dX1_minimumIfCost_48 ml_X1_162 (c_k_needNumber (by omega)) (Nat.le_of_ble_eq_true rfl) (by decide) ⟨by omega, by omega⟩ rfl (fun w48 q48 => ?_) (fun k2 w2 hk0 hq => absurd hq.2.1 (by decide))
          obtain ⟨-, hw48⟩ := q48
          rw [hw48]
          refine g_aload_n (pc' := 52) hX dX1_minimumIfCost_51 rfl rfl ?_
          refine gV0U0 (pc' := 55) hX dX1_minimumIfCost_52 ml_X1_284 gc_X1 hV.h0 hV.hk (c_s_load hS.1) (Nat.le_of_ble_eq_true rfl) (by decide) rfl (fun w52 q52 => ?_)
          obtain ⟨-, hFl, h6, hA⟩ := q52
          have hS := hS.ld hFl
          have hV := hS.1.1
          refine g_aload_n (pc' := 56) hX dX1_minimumIfCost_55 rfl rfl ?_
          refine gf_X1_35 (pc' := 59) hX dX1_minimumIfCost_56 hV.h0 hV.hk rfl ?_
          rw [hV.f 7 (by decide) (show xF 7 = 0 from rfl)]
          refine g_iload_n (pc' := 60) hX dX1_minimumIfCost_59 rfl rfl ?_
          refine g_aaldL (pc' := 61) hX dX1_minimumIfCost_60 (by have := hV.b0; omega) (by rw [hV.kk 0 (by decide) (show xK b 0 = 54 from rfl)]; decide) (hV.ln 0 (by decide) (show xL 0 = 7 from rfl)) (by omega) rfl ?_
          rw [hV.c0 (by omega)]
          refine g_iload_n (pc' := 62) hX dX1_minimumIfCost_61 rfl rfl ?_
          refine g_iload_n (pc' := 63) hX dX1_minimumIfCost_62 rfl rfl ?_
          refine g_iastL (pc' := 64) hX dX1_minimumIfCost_63 (by have := hV.hbb; omega) (hV.ck (by omega)) (hV.cl (by omega)) (by omega) rfl ?_
          refine hS.upc (by omega) (fun u2 hS g2 h62 => ?_)
          have hV := hS.1.1
          have h6 := h62.trans h6
          have hA2 : ∀ p q : Int, 0 ≤ p → p < n → 0 ≤ q → q < n → rdw u2 (b + 1 + p) q = (fun i j => if i = r ∧ j = c then v else tC m h i j) p q := fun p q p0 p1 q0 q1 => by
            rw [g2 p q, hA p q p0 p1 q0 q1]
          have hC2 : bC (fun i j => if i = r ∧ j = c then v else tC m h i j) n := fun i j i0 i1 j0 j1 => by
            have := hC i j i0 i1 j0 j1
            show 0 ≤ (if i = r ∧ j = c then v else tC m h i j) ∧ (if i = r ∧ j = c then v else tC m h i j) ≤ 1000
            split <;> omega
          refine g_aload_n (pc' := 65) hX dX1_minimumIfCost_64 rfl rfl ?_
          refine gV0I (pc' := 68) hX dX1_minimumIfCost_65 ml_X1_286 gc_X1 hV.h0 hV.hk (c_s_solve (n := n) hS.1.1 hS.1.2.2.2.1 h6 hnb hA2 hC2.bD) (Nat.le_of_ble_eq_true rfl) (by decide) ⟨by omega, by omega⟩ rfl (fun r65 w65 q65 => ?_)
          obtain ⟨-, hGs, hQs, hOP, hrs, hHU⟩ := q65
          have hS := hS.zu hGs hQs
          have hV := hS.1.1
          have hans := hrs.trans (hOP.min.uniq (lkF_mn (n := n.toNat) (C := fun i j => if i = r ∧ j = c then v else tC m h i j) (by omega) (fun σ hσ => by have := (pm_bnd (n := n.toNat) (C := fun i j => if i = r ∧ j = c then v else tC m h i j) (by omega) (by rw [Int.toNat_of_nonneg (by omega)]; exact hC2) σ hσ).1; omega)).1)
          exact g_retIX hX hF dX1_minimumIfCost_68 ⟨by (repeat' split) <;> omega, hans, hS.1, hS.gx hH.1⟩

theorem c_o_maximum (hH : XX E xo b n m h sn sm sh e w)  : Call E mX1_maximum 12 686 4655 [vR xo] w (qI (fun r w' => r = (LK n m h).2.2.2.1 ∧ XX E xo b n m h sn sm sh e w' ∧ Gr (fun a _ => ZX xo b w a) w w')) := by
  refine call_of (av := [(1, xo)]) (by decide +kernel) rfl (Nat.le_of_ble_eq_true rfl) ?_
  intro X hX hF hname
  show GG X 686 4655 w 0 [(1, xo), (9, 0), (9, 0), (9, 0)] []
  have hS := SB.rf hH
  have hV := hH.1
  have hn := hH.2.2.1.1.2.1
  have hnb : 1 ≤ n ∧ n ≤ 7 := by omega
  have hC := hH.2.2.1.bCn
  refine g_aload_n (pc' := 1) hX dX1_maximum_0 rfl rfl ?_
  refine g_aload_n (pc' := 2) hX dX1_maximum_1 rfl rfl ?_
  refine gf_X1_7 (pc' := 5) hX dX1_maximum_2 hV.h0 hV.hk rfl ?_
  rw [hS.1.2.2.1.1.1.1]
  refine pf_X1_237 (pc' := 8) hX dX1_maximum_5 hV.hb hV.hk rfl ?_
  refine hS.up6 (fun u0 hS h60 => ?_)
  have hV := hS.1.1
  refine g_iconst (pc' := 9) hX dX1_maximum_8 rfl ?_
  refine g_istore_n_1 (pc' := 10) hX dX1_maximum_9 (by decide) rfl rfl ?_
  have loop : ∀ (f : Nat) (i : Int) (u : Wd) (x2 x3 : Nat × Int), 0 ≤ i → i ≤ n → SB E xo b n m h sn sm sh e w u → rdw u xo 6 = n → (∀ p q : Int, 0 ≤ p → p < i → 0 ≤ q → q < n → rdw u (b + 1 + p) q = (fun i j => if tC m h i j = 1000 then 10000 else 99 - tC m h i j) p q) → n < i + f → GG X 686 4655 u 10 [(1, xo), (0, i), x2, x3] [] := by
    intro f
    induction f with
    | zero => intro i u x2 x3 i0 i1 hS h6 hA hf; exact absurd hf (by omega)
    | succ f ih =>
      intro i u x2 x3 i0 i1 hS h6 hA hf
      have hV := hS.1.1
      refine g_iload_n (pc' := 11) hX dX1_maximum_10 rfl rfl ?_
      refine g_aload_n (pc' := 12) hX dX1_maximum_11 rfl rfl ?_
      refine gf_X1_7 (pc' := 15) hX dX1_maximum_12 hV.h0 hV.hk rfl ?_
      rw [hS.1.2.2.1.1.1.1]
      refine g_icmp_ge (pc' := 18) (tgt := 72) hX dX1_maximum_15 (by decide) rfl (by omega) (by omega) (fun h15 => ?_) (fun h15 => ?_)
      · skip
        refine g_aload_n (pc' := 73) hX dX1_maximum_72 rfl rfl ?_
        refine gV0I (pc' := 76) hX dX1_maximum_73 ml_X1_286 gc_X1 hV.h0 hV.hk (c_s_solve (n := n) hS.1.1 hS.1.2.2.2.1 h6 hnb (C := (fun i j => if tC m h i j = 1000 then 10000 else 99 - tC m h i j)) (fun p q p0 p1 q0 q1 => hA p q p0 (by omega) q0 q1) (fun i j i0 i1 j0 j1 => by have h1 := hC i j i0 i1 j0 j1; have h2 := hS.1.2.2.1.v9 i j i0 i1 j0 j1; show 0 ≤ (if tC m h i j = 1000 then (10000 : Int) else 99 - tC m h i j) ∧ (if tC m h i j = 1000 then (10000 : Int) else 99 - tC m h i j) ≤ 10000; split <;> omega)) (Nat.le_of_ble_eq_true rfl) (by decide) ⟨by omega, by omega⟩ rfl (fun r73 w73 q73 => ?_)
        obtain ⟨-, hGs, hQs, hOP, hrs, hHU⟩ := q73
        have hS := hS.zu hGs hQs
        have hV := hS.1.1
        have hans0 := OB_max hnb hC hS.1.2.2.1.v9 hOP.min
        rw [← hrs] at hans0
        have hzb : 0 ≤ r73 ∧ r73 ≤ 70000 := by rw [hrs]; exact hOP.zb hnb (fun i j i0 i1 j0 j1 => by have h1 := hC i j i0 i1 j0 j1; have h2 := hS.1.2.2.1.v9 i j i0 i1 j0 j1; show 0 ≤ (if tC m h i j = 1000 then (10000 : Int) else 99 - tC m h i j) ∧ (if tC m h i j = 1000 then (10000 : Int) else 99 - tC m h i j) ≤ 10000; split <;> omega)
        refine g_istore_n_1 (pc' := 77) hX dX1_maximum_76 (by decide) rfl rfl ?_
        refine g_iload_n (pc' := 78) hX dX1_maximum_77 rfl rfl ?_
        refine g_sipush (pc' := 81) hX dX1_maximum_78 rfl rfl ?_
        refine g_icmp_lt (pc' := 84) (tgt := 88) hX dX1_maximum_81 (by decide) rfl (by omega) (by omega) (fun h81 => ?_) (fun h81 => ?_)
        · skip
          rw [if_neg (by omega)] at hans0
          refine g_bipush (pc' := 90) hX dX1_maximum_88 rfl rfl ?_
          refine g_aload_n (pc' := 91) hX dX1_maximum_90 rfl rfl ?_
          refine gf_X1_7 (pc' := 94) hX dX1_maximum_91 hV.h0 hV.hk rfl ?_
          rw [hS.1.2.2.1.1.1.1]
          refine g_imul (pc' := 95) hX dX1_maximum_94 rfl ?_
          refine g_iload_n (pc' := 96) hX dX1_maximum_95 rfl rfl ?_
          refine g_isub (pc' := 97) hX dX1_maximum_96 rfl ?_
          exact g_retI hX hF dX1_maximum_97 ⟨hans0.symm, hS.1, hS.gx hH.1⟩
        · skip
          rw [if_pos (by omega)] at hans0
          refine g_iconst (pc' := 85) hX dX1_maximum_84 rfl ?_
          refine g_goto (tgt := 97) hX dX1_maximum_85 (by decide) ?_
          exact g_retI hX hF dX1_maximum_97 ⟨hans0.symm, hS.1, hS.gx hH.1⟩
      · skip
        refine g_iconst (pc' := 19) hX dX1_maximum_18 rfl ?_
        refine g_istore_n_2 (pc' := 20) hX dX1_maximum_19 (by decide) rfl rfl ?_
        have loop2 : ∀ (f : Nat) (j : Int) (u : Wd) (x3 : Nat × Int), 0 ≤ j → j ≤ n → SB E xo b n m h sn sm sh e w u → rdw u xo 6 = n → (∀ p q : Int, 0 ≤ p → p ≤ i → 0 ≤ q → q < n → (p < i ∨ q < j) → rdw u (b + 1 + p) q = (fun i j => if tC m h i j = 1000 then 10000 else 99 - tC m h i j) p q) → n < j + f → GG X 686 4655 u 20 [(1, xo), (0, i), (0, j), x3] [] := by
          intro f
          induction f with
          | zero => intro j u x3 j0 j1 hS h6 hA2 hf; exact absurd hf (by omega)
          | succ f ih2 =>
            intro j u x3 j0 j1 hS h6 hA2 hf
            have hV := hS.1.1
            refine g_iload_n (pc' := 21) hX dX1_maximum_20 rfl rfl ?_
            refine g_aload_n (pc' := 22) hX dX1_maximum_21 rfl rfl ?_
            refine gf_X1_7 (pc' := 25) hX dX1_maximum_22 hV.h0 hV.hk rfl ?_
            rw [hS.1.2.2.1.1.1.1]
            refine g_icmp_ge (pc' := 28) (tgt := 66) hX dX1_maximum_25 (by decide) rfl (by omega) (by omega) (fun h25 => ?_) (fun h25 => ?_)
            · skip
              refine g_iinc_1 (pc' := 69) hX dX1_maximum_66 (by decide) rfl rfl ?_
              refine g_goto (tgt := 10) hX dX1_maximum_69 (by decide) ?_
              exact ih (i + 1) u _ _ (by omega) (by omega) hS h6 (fun p q p0 p1 q0 q1 => hA2 p q p0 (by omega) q0 q1 (by omega)) (by omega)
            · skip
              refine g_aload_n (pc' := 29) hX dX1_maximum_28 rfl rfl ?_
              refine g_iload_n (pc' := 30) hX dX1_maximum_29 rfl rfl ?_
              refine g_iload_n (pc' := 31) hX dX1_maximum_30 rfl rfl ?_
              refine gV2E0 (pc' := 34) hX dX1_maximum_31 ml_X1_204 gc_X1 hV.h0 hV.hk (c_k_costHere hV hS.1.2.2.1 (by omega) (by omega)) (Nat.le_of_ble_eq_true rfl) (by decide) rfl ?_
              have hCij := hC i j i0 (by omega) j0 (by omega)
              refine g_istore_n_3 (pc' := 35) hX dX1_maximum_34 (by decide) rfl rfl ?_
              refine g_aload_n (pc' := 36) hX dX1_maximum_35 rfl rfl ?_
              refine gf_X1_35 (pc' := 39) hX dX1_maximum_36 hV.h0 hV.hk rfl ?_
              rw [hV.f 7 (by decide) (show xF 7 = 0 from rfl)]
              refine g_iload_n (pc' := 40) hX dX1_maximum_39 rfl rfl ?_
              refine g_aaldL (pc' := 41) hX dX1_maximum_40 (by have := hV.b0; omega) (by rw [hV.kk 0 (by decide) (show xK b 0 = 54 from rfl)]; decide) (hV.ln 0 (by decide) (show xL 0 = 7 from rfl)) (by omega) rfl ?_
              rw [hV.c0 (by omega)]
              refine g_iload_n (pc' := 42) hX dX1_maximum_41 rfl rfl ?_
              refine g_iload_n (pc' := 43) hX dX1_maximum_42 rfl rfl ?_
              refine g_sipush (pc' := 46) hX dX1_maximum_43 rfl rfl ?_
              refine g_icmp_ne (pc' := 49) (tgt := 55) hX dX1_maximum_46 (by decide) rfl (by omega) (by omega) (fun h46 => ?_) (fun h46 => ?_)
              · skip
                refine g_bipush (pc' := 57) hX dX1_maximum_55 rfl rfl ?_
                refine g_iload_n (pc' := 58) hX dX1_maximum_57 rfl rfl ?_
                refine g_isub (pc' := 59) hX dX1_maximum_58 rfl ?_
                refine g_iastL (pc' := 60) hX dX1_maximum_59 (by have := hV.hbb; omega) (hV.ck (by omega)) (hV.cl (by omega)) (by omega) rfl ?_
                refine hS.upc (by omega) (fun u2 hS g2 h62 => ?_)
                refine g_iinc_2 (pc' := 63) hX dX1_maximum_60 (by decide) rfl rfl ?_
                refine g_goto (tgt := 20) hX dX1_maximum_63 (by decide) ?_
                refine ih2 (j + 1) u2 _ (by omega) (by omega) hS (h62.trans h6) (fun p q p0 p1 q0 q1 pq => ?_) (by omega)
                rw [g2 p q]
                by_cases hp : p = i ∧ q = j
                · rw [if_pos hp, hp.1, hp.2]
                  show _ = if tC m h i j = 1000 then 10000 else 99 - tC m h i j
                  split <;> omega
                · rw [if_neg hp]; exact hA2 p q p0 p1 q0 q1 (by omega)
              · skip
                refine g_sipush (pc' := 52) hX dX1_maximum_49 rfl rfl ?_
                refine g_goto (tgt := 59) hX dX1_maximum_52 (by decide) ?_
                refine g_iastL (pc' := 60) hX dX1_maximum_59 (by have := hV.hbb; omega) (hV.ck (by omega)) (hV.cl (by omega)) (by omega) rfl ?_
                refine hS.upc (by omega) (fun u2 hS g2 h62 => ?_)
                refine g_iinc_2 (pc' := 63) hX dX1_maximum_60 (by decide) rfl rfl ?_
                refine g_goto (tgt := 20) hX dX1_maximum_63 (by decide) ?_
                refine ih2 (j + 1) u2 _ (by omega) (by omega) hS (h62.trans h6) (fun p q p0 p1 q0 q1 pq => ?_) (by omega)
                rw [g2 p q]
                by_cases hp : p = i ∧ q = j
                · rw [if_pos hp, hp.1, hp.2]
                  show _ = if tC m h i j = 1000 then 10000 else 99 - tC m h i j
                  split <;> omega
                · rw [if_neg hp]; exact hA2 p q p0 p1 q0 q1 (by omega)
        exact loop2 100 0 u _ (by omega) (by omega) hS h6 (fun p q p0 p1 q0 q1 pq => hA p q p0 (by omega) q0 q1) (by omega)
  exact loop 100 0 _ _ _ (by omega) (by omega) hS h60 (fun p q p0 p1 q0 q1 => by omega) (by omega)

end S6S
