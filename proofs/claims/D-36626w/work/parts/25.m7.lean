/-! MODEL: the table's operations, on (by gen/spec_m7.py) -/
set_option maxRecDepth 100000
set_option maxHeartbeats 4000000
section M7
variable {E : Ev} {mo n m sn sm : Int} {h sh : Int → Int → Int} {e : En} {w : Wd}
theorem c_m_rowSum {r : Int} (hM : MM E mo n m h sn sm sh e w) (hr : 0 ≤ r ∧ r < n) : Call E mX4_rowSum 1 0 0 [vR mo, vI r] w (qE (rS n m h r) w) := by
  refine call_of (av := [(1, mo), (0, r)]) (by decide +kernel) rfl (Nat.le_of_ble_eq_true rfl) ?_
  intro X hX hF hname
  show GG X 0 0 w 0 [(1, mo), (0, r), (9, 0), (9, 0)] []
  have hb := hM.1.b
  have hsb := hM.2.1.2
  skip
  refine g_iconst (pc' := 1) hX dX4_rowSum_0 rfl ?_
  refine g_istore_n_2 (pc' := 2) hX dX4_rowSum_1 (by decide) rfl rfl ?_
  refine g_iconst (pc' := 3) hX dX4_rowSum_2 rfl ?_
  refine g_istore_n_3 (pc' := 4) hX dX4_rowSum_3 (by decide) rfl rfl ?_
  have loop : ∀ (f : Nat) (i : Int), 0 ≤ i → i ≤ n → n < i + f → GG X 0 0 w 4 [(1, mo), (0, r), (0, sm' i.toNat (tC m h r)), (0, i)] [] := by
    intro f
    induction f with
    | zero => intro i h0 h1 hf; exact absurd hf (by omega)
    | succ f ih =>
      intro i h0 h1 hf
      refine g_iload_n (pc' := 5) hX dX4_rowSum_4 rfl rfl ?_
      refine g_aload_n (pc' := 6) hX dX4_rowSum_5 rfl rfl ?_
      refine gf_X4_7 (pc' := 9) hX dX4_rowSum_6 hM.1.h0 hM.1.hk rfl ?_
      rw [hM.1.vn]
      refine g_icmp_ge (pc' := 12) (tgt := 27) hX dX4_rowSum_9 (by decide) rfl (by omega) (by omega) (fun h9 => ?_) (fun h9 => ?_)
      · skip
        refine g_iload_n (pc' := 28) hX dX4_rowSum_27 rfl rfl ?_
        exact g_retE hX hF dX4_rowSum_28 (by rw [show i = n by omega]; rfl) rfl
      · skip
        refine g_iload_n (pc' := 13) hX dX4_rowSum_12 rfl rfl ?_
        refine g_aload_n (pc' := 14) hX dX4_rowSum_13 rfl rfl ?_
        refine g_iload_n (pc' := 15) hX dX4_rowSum_14 rfl rfl ?_
        refine g_iload_n (pc' := 16) hX dX4_rowSum_15 rfl rfl ?_
        refine gV2E0 (pc' := 19) hX dX4_rowSum_16 ml_X4_75 gc_X4 hM.1.h0 hM.1.hk (c_m_costT hM (by omega) (by omega)) (Nat.le_of_ble_eq_true rfl) (by decide) rfl ?_
        refine g_iadd (pc' := 20) hX dX4_rowSum_19 rfl ?_
        refine g_istore_n_2 (pc' := 21) hX dX4_rowSum_20 (by decide) rfl rfl ?_
        refine g_iinc_3 (pc' := 24) hX dX4_rowSum_21 (by decide) rfl rfl ?_
        refine g_goto (tgt := 4) hX dX4_rowSum_24 (by decide) ?_
        have ex := ih (i + 1) (by omega) (by omega) (by omega)
        rw [sm_s h0] at ex
        exact ex
  exact loop 8 0 (by omega) (by omega) (by omega)

theorem c_m_columnSum {c : Int} (hM : MM E mo n m h sn sm sh e w) (hc : 0 ≤ c ∧ c < n) : Call E mX4_columnSum 1 0 0 [vR mo, vI c] w (qE (clS n m h c) w) := by
  refine call_of (av := [(1, mo), (0, c)]) (by decide +kernel) rfl (Nat.le_of_ble_eq_true rfl) ?_
  intro X hX hF hname
  show GG X 0 0 w 0 [(1, mo), (0, c), (9, 0), (9, 0)] []
  have hb := hM.1.b
  have hsb := hM.2.1.2
  skip
  refine g_iconst (pc' := 1) hX dX4_columnSum_0 rfl ?_
  refine g_istore_n_2 (pc' := 2) hX dX4_columnSum_1 (by decide) rfl rfl ?_
  refine g_iconst (pc' := 3) hX dX4_columnSum_2 rfl ?_
  refine g_istore_n_3 (pc' := 4) hX dX4_columnSum_3 (by decide) rfl rfl ?_
  have loop : ∀ (f : Nat) (i : Int), 0 ≤ i → i ≤ n → n < i + f → GG X 0 0 w 4 [(1, mo), (0, c), (0, sm' i.toNat (fun i => tC m h i c)), (0, i)] [] := by
    intro f
    induction f with
    | zero => intro i h0 h1 hf; exact absurd hf (by omega)
    | succ f ih =>
      intro i h0 h1 hf
      refine g_iload_n (pc' := 5) hX dX4_columnSum_4 rfl rfl ?_
      refine g_aload_n (pc' := 6) hX dX4_columnSum_5 rfl rfl ?_
      refine gf_X4_7 (pc' := 9) hX dX4_columnSum_6 hM.1.h0 hM.1.hk rfl ?_
      rw [hM.1.vn]
      refine g_icmp_ge (pc' := 12) (tgt := 27) hX dX4_columnSum_9 (by decide) rfl (by omega) (by omega) (fun h9 => ?_) (fun h9 => ?_)
      · skip
        refine g_iload_n (pc' := 28) hX dX4_columnSum_27 rfl rfl ?_
        exact g_retE hX hF dX4_columnSum_28 (by rw [show i = n by omega]; rfl) rfl
      · skip
        refine g_iload_n (pc' := 13) hX dX4_columnSum_12 rfl rfl ?_
        refine g_aload_n (pc' := 14) hX dX4_columnSum_13 rfl rfl ?_
        refine g_iload_n (pc' := 15) hX dX4_columnSum_14 rfl rfl ?_
        refine g_iload_n (pc' := 16) hX dX4_columnSum_15 rfl rfl ?_
        refine gV2E0 (pc' := 19) hX dX4_columnSum_16 ml_X4_75 gc_X4 hM.1.h0 hM.1.hk (c_m_costT hM (by omega) (by omega)) (Nat.le_of_ble_eq_true rfl) (by decide) rfl ?_
        refine g_iadd (pc' := 20) hX dX4_columnSum_19 rfl ?_
        refine g_istore_n_2 (pc' := 21) hX dX4_columnSum_20 (by decide) rfl rfl ?_
        refine g_iinc_3 (pc' := 24) hX dX4_columnSum_21 (by decide) rfl rfl ?_
        refine g_goto (tgt := 4) hX dX4_columnSum_24 (by decide) ?_
        have ex := ih (i + 1) (by omega) (by omega) (by omega)
        rw [sm_s h0] at ex
        exact ex
  exact loop 8 0 (by omega) (by omega) (by omega)

theorem c_m_total (hM : MM E mo n m h sn sm sh e w) : Call E mX4_total 2 0 0 [vR mo] w (qE (tS n m h) w) := by
  refine call_of (av := [(1, mo)]) (by decide +kernel) rfl (Nat.le_of_ble_eq_true rfl) ?_
  intro X hX hF hname
  show GG X 0 0 w 0 [(1, mo), (9, 0), (9, 0)] []
  have hb := hM.1.b
  have hsb := hM.2.1.2
  skip
  refine g_iconst (pc' := 1) hX dX4_total_0 rfl ?_
  refine g_istore_n_1 (pc' := 2) hX dX4_total_1 (by decide) rfl rfl ?_
  refine g_iconst (pc' := 3) hX dX4_total_2 rfl ?_
  refine g_istore_n_2 (pc' := 4) hX dX4_total_3 (by decide) rfl rfl ?_
  have loop : ∀ (f : Nat) (i : Int), 0 ≤ i → i ≤ n → n < i + f → GG X 0 0 w 4 [(1, mo), (0, sm' i.toNat (rS n m h)), (0, i)] [] := by
    intro f
    induction f with
    | zero => intro i h0 h1 hf; exact absurd hf (by omega)
    | succ f ih =>
      intro i h0 h1 hf
      refine g_iload_n (pc' := 5) hX dX4_total_4 rfl rfl ?_
      refine g_aload_n (pc' := 6) hX dX4_total_5 rfl rfl ?_
      refine gf_X4_7 (pc' := 9) hX dX4_total_6 hM.1.h0 hM.1.hk rfl ?_
      rw [hM.1.vn]
      refine g_icmp_ge (pc' := 12) (tgt := 26) hX dX4_total_9 (by decide) rfl (by omega) (by omega) (fun h9 => ?_) (fun h9 => ?_)
      · skip
        refine g_iload_n (pc' := 27) hX dX4_total_26 rfl rfl ?_
        exact g_retE hX hF dX4_total_27 (by rw [show i = n by omega]; rfl) rfl
      · skip
        refine g_iload_n (pc' := 13) hX dX4_total_12 rfl rfl ?_
        refine g_aload_n (pc' := 14) hX dX4_total_13 rfl rfl ?_
        refine g_iload_n (pc' := 15) hX dX4_total_14 rfl rfl ?_
        refine gV1E0 (pc' := 18) hX dX4_total_15 ml_X4_144 gc_X4 hM.1.h0 hM.1.hk (c_m_rowSum hM (by omega)) (Nat.le_of_ble_eq_true rfl) (by decide) rfl ?_
        refine g_iadd (pc' := 19) hX dX4_total_18 rfl ?_
        refine g_istore_n_1 (pc' := 20) hX dX4_total_19 (by decide) rfl rfl ?_
        refine g_iinc_2 (pc' := 23) hX dX4_total_20 (by decide) rfl rfl ?_
        refine g_goto (tgt := 4) hX dX4_total_23 (by decide) ?_
        have ex := ih (i + 1) (by omega) (by omega) (by omega)
        rw [sm_s h0] at ex
        exact ex
  exact loop 8 0 (by omega) (by omega) (by omega)

theorem c_m_fbMany (hM : MM E mo n m h sn sm sh e w) : Call E mX4_forbiddenMany 0 0 0 [vR mo] w (qE (cF n m h) w) := by
  refine call_of (av := [(1, mo)]) (by decide +kernel) rfl (Nat.le_of_ble_eq_true rfl) ?_
  intro X hX hF hname
  show GG X 0 0 w 0 [(1, mo), (9, 0), (9, 0), (9, 0)] []
  have hb := hM.1.b
  have hsb := hM.2.1.2
  skip
  refine g_iconst (pc' := 1) hX dX4_forbiddenMany_0 rfl ?_
  refine g_istore_n_1 (pc' := 2) hX dX4_forbiddenMany_1 (by decide) rfl rfl ?_
  refine g_iconst (pc' := 3) hX dX4_forbiddenMany_2 rfl ?_
  refine g_istore_n_2 (pc' := 4) hX dX4_forbiddenMany_3 (by decide) rfl rfl ?_
  have loop : ∀ (f : Nat) (i : Int) (xj : Nat × Int), 0 ≤ i → i ≤ n → (xj = (9, 0) ∨ xj.1 = 0) → n < i + f → GG X 0 0 w 4 [(1, mo), (0, sm' i.toNat (fun i => sm' m.toNat (fun j => hfg (h i j)))), (0, i), xj] [] := by
    intro f
    induction f with
    | zero => intro i xj h0 h1 hxj hf; exact absurd hf (by omega)
    | succ f ih =>
      intro i xj h0 h1 hxj hf
      refine g_iload_n (pc' := 5) hX dX4_forbiddenMany_4 rfl rfl ?_
      refine g_aload_n (pc' := 6) hX dX4_forbiddenMany_5 rfl rfl ?_
      refine gf_X4_7 (pc' := 9) hX dX4_forbiddenMany_6 hM.1.h0 hM.1.hk rfl ?_
      rw [hM.1.vn]
      refine g_icmp_ge (pc' := 12) (tgt := 56) hX dX4_forbiddenMany_9 (by decide) rfl (by omega) (by omega) (fun h9 => ?_) (fun h9 => ?_)
      · skip
        refine g_iload_n (pc' := 57) hX dX4_forbiddenMany_56 rfl rfl ?_
        exact g_retE hX hF dX4_forbiddenMany_57 (by rw [show i = n by omega]; rfl) rfl
      · skip
        refine g_iconst (pc' := 13) hX dX4_forbiddenMany_12 rfl ?_
        refine g_istore_n_3 (pc' := 14) hX dX4_forbiddenMany_13 (by decide) rfl rfl ?_
        have loop2 : ∀ (g : Nat) (j : Int), 0 ≤ j → j ≤ m → m < j + g → GG X 0 0 w 14 [(1, mo), (0, sm' i.toNat (fun i => sm' m.toNat (fun j => hfg (h i j))) + sm' j.toNat (fun j => hfg (h i j))), (0, i), (0, j)] [] := by
          intro g
          induction g with
          | zero => intro j _ _ hg; exact absurd hg (by omega)
          | succ g ih2 =>
            intro j j0 j1 hg
            refine g_iload_n (pc' := 15) hX dX4_forbiddenMany_14 rfl rfl ?_
            refine g_aload_n (pc' := 16) hX dX4_forbiddenMany_15 rfl rfl ?_
            refine gf_X4_13 (pc' := 19) hX dX4_forbiddenMany_16 hM.1.h0 hM.1.hk rfl ?_
            rw [hM.1.vm]
            refine g_icmp_ge (pc' := 22) (tgt := 50) hX dX4_forbiddenMany_19 (by decide) rfl (by omega) (by omega) (fun h19 => ?_) (fun h19 => ?_)
            · skip
              refine g_iinc_2 (pc' := 53) hX dX4_forbiddenMany_50 (by decide) rfl rfl ?_
              refine g_goto (tgt := 4) hX dX4_forbiddenMany_53 (by decide) ?_
              have ex := ih (i + 1) (0, j) (by omega) (by omega) (Or.inr rfl) (by omega)
              rw [sm_s h0] at ex
              rw [show j = m by omega]
              rw [show j = m by omega] at ex
              exact ex
            · skip
              refine g_iload_n (pc' := 23) hX dX4_forbiddenMany_22 rfl rfl ?_
              refine g_aload_n (pc' := 24) hX dX4_forbiddenMany_23 rfl rfl ?_
              refine gf_X4_29 (pc' := 27) hX dX4_forbiddenMany_24 hM.1.h0 hM.1.hk rfl ?_
              rw [hM.1.f 7 (by decide) (show moF 7 = 3 by decide)]
              refine g_bipush (pc' := 29) hX dX4_forbiddenMany_27 rfl rfl ?_
              refine g_iload_n (pc' := 30) hX dX4_forbiddenMany_29 rfl rfl ?_
              refine g_imul (pc' := 31) hX dX4_forbiddenMany_30 rfl ?_
              refine g_iload_n (pc' := 32) hX dX4_forbiddenMany_31 rfl rfl ?_
              refine g_iadd (pc' := 33) hX dX4_forbiddenMany_32 rfl ?_
              refine g_zaldL (pc' := 34) hX dX4_forbiddenMany_33 (by have := hM.1.h0; omega) (hM.1.k 3 (by decide) (show moK 3 = 51 by decide)) (hM.1.l 3 (by decide) (show moN 3 = 49 by decide)) (by omega) rfl ?_
              rw [hM.2.2.1.g i j (by omega) (by omega)]
              have hf1 := hfg_b (v := h i j)
              refine g_if_eq (pc' := 37) (tgt := 41) hX dX4_forbiddenMany_34 (by decide) rfl (by omega) (fun h34 => ?_) (fun h34 => ?_)
              · skip
                refine g_iconst (pc' := 42) hX dX4_forbiddenMany_41 rfl ?_
                refine g_iadd (pc' := 43) hX dX4_forbiddenMany_42 rfl ?_
                refine g_istore_n_1 (pc' := 44) hX dX4_forbiddenMany_43 (by decide) rfl rfl ?_
                refine g_iinc_3 (pc' := 47) hX dX4_forbiddenMany_44 (by decide) rfl rfl ?_
                refine g_goto (tgt := 14) hX dX4_forbiddenMany_47 (by decide) ?_
                have ex := ih2 (j + 1) (by omega) (by omega) (by omega)
                rw [sm_s j0, ← Int.add_assoc] at ex
                first
                  | (rw [show hfg (h i j) = 1 by omega] at ex; exact ex)
                  | (rw [show hfg (h i j) = 0 by omega] at ex; exact ex)
              · skip
                refine g_iconst (pc' := 38) hX dX4_forbiddenMany_37 rfl ?_
                refine g_goto (tgt := 42) hX dX4_forbiddenMany_38 (by decide) ?_
                refine g_iadd (pc' := 43) hX dX4_forbiddenMany_42 rfl ?_
                refine g_istore_n_1 (pc' := 44) hX dX4_forbiddenMany_43 (by decide) rfl rfl ?_
                refine g_iinc_3 (pc' := 47) hX dX4_forbiddenMany_44 (by decide) rfl rfl ?_
                refine g_goto (tgt := 14) hX dX4_forbiddenMany_47 (by decide) ?_
                have ex := ih2 (j + 1) (by omega) (by omega) (by omega)
                rw [sm_s j0, ← Int.add_assoc] at ex
                first
                  | (rw [show hfg (h i j) = 1 by omega] at ex; exact ex)
                  | (rw [show hfg (h i j) = 0 by omega] at ex; exact ex)
        have ex := loop2 8 0 (by omega) (by omega) (by omega)
        rw [show sm' (0 : Int).toNat (fun j => hfg (h i j)) = 0 from rfl, Int.add_zero] at ex
        exact ex
  exact loop 8 0 (9, 0) (by omega) (by omega) (Or.inl rfl) (by omega)

theorem c_m_savedCost {i j : Int} (hM : MM E mo n m h sn sm sh e w) (hi : 0 ≤ i ∧ i < 7) (hj : 0 ≤ j ∧ j < 7) : Call E mX4_savedCost 0 0 0 [vR mo, vI i, vI j] w (qE (tC sm sh i j) w) := by
  refine call_of (av := [(1, mo), (0, i), (0, j)]) (by decide +kernel) rfl (Nat.le_of_ble_eq_true rfl) ?_
  intro X hX hF hname
  show GG X 0 0 w 0 [(1, mo), (0, i), (0, j)] []
  have hb := hM.1.b
  have hsb := hM.2.1.2
  have hF0 := hF
  unfold tC at hF0
  refine g_iload_n (pc' := 1) hX dX4_savedCost_0 rfl rfl ?_
  refine g_aload_n (pc' := 2) hX dX4_savedCost_1 rfl rfl ?_
  refine gf_X4_19 (pc' := 5) hX dX4_savedCost_2 hM.1.h0 hM.1.hk rfl ?_
  rw [hM.2.1.1.2]
  refine g_icmp_lt (pc' := 8) (tgt := 12) hX dX4_savedCost_5 (by decide) rfl (by omega) (by omega) (fun h5 => ?_) (fun h5 => ?_)
  · skip
    rw [if_neg (by omega)] at hF0
    refine g_aload_n (pc' := 13) hX dX4_savedCost_12 rfl rfl ?_
    refine gf_X4_33 (pc' := 16) hX dX4_savedCost_13 hM.1.h0 hM.1.hk rfl ?_
    rw [hM.1.f 8 (by decide) (show moF 8 = 4 by decide)]
    refine g_bipush (pc' := 18) hX dX4_savedCost_16 rfl rfl ?_
    refine g_iload_n (pc' := 19) hX dX4_savedCost_18 rfl rfl ?_
    refine g_imul (pc' := 20) hX dX4_savedCost_19 rfl ?_
    refine g_iload_n (pc' := 21) hX dX4_savedCost_20 rfl rfl ?_
    refine g_iadd (pc' := 22) hX dX4_savedCost_21 rfl ?_
    refine g_zaldL (pc' := 23) hX dX4_savedCost_22 (by have := hM.1.h0; omega) (hM.1.k 4 (by decide) (show moK 4 = 51 by decide)) (hM.1.l 4 (by decide) (show moN 4 = 49 by decide)) (by omega) rfl ?_
    rw [hM.2.2.2.1.g i j (by omega) (by omega)]
    have hf1 := hfg_b (v := sh i j)
    refine g_if_eq (pc' := 26) (tgt := 32) hX dX4_savedCost_23 (by decide) rfl (by omega) (fun h23 => ?_) (fun h23 => ?_)
    · skip
      have h23 : ¬ sh i j < 0 := by unfold hfg at h23; split at h23 <;> omega
      rw [if_neg (by omega)] at hF0
      refine g_aload_n (pc' := 33) hX dX4_savedCost_32 rfl rfl ?_
      refine gf_X4_26 (pc' := 36) hX dX4_savedCost_33 hM.1.h0 hM.1.hk rfl ?_
      rw [hM.1.f 6 (by decide) (show moF 6 = 2 by decide)]
      refine g_bipush (pc' := 38) hX dX4_savedCost_36 rfl rfl ?_
      refine g_iload_n (pc' := 39) hX dX4_savedCost_38 rfl rfl ?_
      refine g_imul (pc' := 40) hX dX4_savedCost_39 rfl ?_
      refine g_iload_n (pc' := 41) hX dX4_savedCost_40 rfl rfl ?_
      refine g_iadd (pc' := 42) hX dX4_savedCost_41 rfl ?_
      refine g_ialdL (pc' := 43) hX dX4_savedCost_42 (by have := hM.1.h0; omega) (hM.1.k 2 (by decide) (show moK 2 = 50 by decide)) (hM.1.l 2 (by decide) (show moN 2 = 49 by decide)) (by omega) rfl ?_
      rw [hM.2.2.2.1.v i j (by omega) (by omega)]
      exact g_retE hX hF0 dX4_savedCost_43 (by first | rfl | (unfold hno; rw [if_neg (by omega)])) rfl
    · skip
      have h23 : sh i j < 0 := by unfold hfg at h23; split at h23 <;> omega
      rw [if_pos (by omega)] at hF0
      refine g_sipush (pc' := 29) hX dX4_savedCost_26 rfl rfl ?_
      refine g_goto (tgt := 43) hX dX4_savedCost_29 (by decide) ?_
      exact g_retE hX hF0 dX4_savedCost_43 (by first | rfl | (unfold hno; rw [if_neg (by omega)])) rfl
  · skip
    rw [if_pos (by omega)] at hF0
    refine g_iconst (pc' := 9) hX dX4_savedCost_8 rfl ?_
    refine g_goto (tgt := 43) hX dX4_savedCost_9 (by decide) ?_
    exact g_retE hX hF0 dX4_savedCost_43 (by first | rfl | (unfold hno; rw [if_neg (by omega)])) rfl

theorem c_m_rows (hM : MM E mo n m h sn sm sh e w) : Call E mX4_rows 0 0 0 [vR mo] w (qE n w) := by
  refine call_of (av := [(1, mo)]) (by decide +kernel) rfl (Nat.le_of_ble_eq_true rfl) ?_
  intro X hX hF hname
  show GG X 0 0 w 0 [(1, mo)] []
  have hb := hM.1.b
  have hsb := hM.2.1.2
  skip
  refine g_aload_n (pc' := 1) hX dX4_rows_0 rfl rfl ?_
  refine gf_X4_7 (pc' := 4) hX dX4_rows_1 hM.1.h0 hM.1.hk rfl ?_
  rw [hM.1.vn]
  exact g_retE hX hF dX4_rows_4 (rfl) rfl

theorem c_m_columns (hM : MM E mo n m h sn sm sh e w) : Call E mX4_columns 0 0 0 [vR mo] w (qE m w) := by
  refine call_of (av := [(1, mo)]) (by decide +kernel) rfl (Nat.le_of_ble_eq_true rfl) ?_
  intro X hX hF hname
  show GG X 0 0 w 0 [(1, mo)] []
  have hb := hM.1.b
  have hsb := hM.2.1.2
  skip
  refine g_aload_n (pc' := 1) hX dX4_columns_0 rfl rfl ?_
  refine gf_X4_13 (pc' := 4) hX dX4_columns_1 hM.1.h0 hM.1.hk rfl ?_
  rw [hM.1.vm]
  exact g_retE hX hF dX4_columns_4 (rfl) rfl

theorem c_m_forbiddenCount (hM : MM E mo n m h sn sm sh e w) : Call E mX4_forbiddenCount 1 0 0 [vR mo] w (qE (cF n m h) w) := by
  refine call_of (av := [(1, mo)]) (by decide +kernel) rfl (Nat.le_of_ble_eq_true rfl) ?_
  intro X hX hF hname
  show GG X 0 0 w 0 [(1, mo)] []
  have hb := hM.1.b
  have hsb := hM.2.1.2
  skip
  refine g_aload_n (pc' := 1) hX dX4_forbiddenCount_0 rfl rfl ?_
  refine gV0E0 (pc' := 4) hX dX4_forbiddenCount_1 ml_X4_134 gc_X4 hM.1.h0 hM.1.hk (c_m_fbMany hM) (Nat.le_of_ble_eq_true rfl) (by decide) rfl ?_
  exact g_retE hX hF dX4_forbiddenCount_4 (rfl) rfl

theorem c_m_totalCost (hM : MM E mo n m h sn sm sh e w) : Call E mX4_totalCost 3 0 0 [vR mo] w (qE (tS n m h) w) := by
  refine call_of (av := [(1, mo)]) (by decide +kernel) rfl (Nat.le_of_ble_eq_true rfl) ?_
  intro X hX hF hname
  show GG X 0 0 w 0 [(1, mo)] []
  have hb := hM.1.b
  have hsb := hM.2.1.2
  skip
  refine g_aload_n (pc' := 1) hX dX4_totalCost_0 rfl rfl ?_
  refine gV0E0 (pc' := 4) hX dX4_totalCost_1 ml_X4_153 gc_X4 hM.1.h0 hM.1.hk (c_m_total hM) (Nat.le_of_ble_eq_true rfl) (by decide) rfl ?_
  exact g_retE hX hF dX4_totalCost_4 (rfl) rfl

theorem c_m_stepsMade (hM : MM E mo n m h sn sm sh e w) : Call E mX4_stepsMade 0 0 0 [vR mo] w (qE e.k w) := by
  refine call_of (av := [(1, mo)]) (by decide +kernel) rfl (Nat.le_of_ble_eq_true rfl) ?_
  intro X hX hF hname
  show GG X 0 0 w 0 [(1, mo)] []
  have hb := hM.1.b
  have hsb := hM.2.1.2
  skip
  refine g_aload_n (pc' := 1) hX dX4_stepsMade_0 rfl rfl ?_
  refine gf_X4_48 (pc' := 4) hX dX4_stepsMade_1 hM.1.h0 hM.1.hk rfl ?_
  rw [hM.2.2.2.2.1.1]
  exact g_retE hX hF dX4_stepsMade_4 (rfl) rfl

theorem c_mo_costAt {r c : Int} (hM : MM E mo n m h sn sm sh e w) (br : -2147483648 ≤ r ∧ r ≤ 2147483647) (bc : -2147483648 ≤ c ∧ c ≤ 2147483647)  : Call E mX4_costAt 2 0 0 [vR mo, vI r, vI c] w (qI (mP mo w (if 0 ≤ r ∧ r ≤ n - 1 ∧ 0 ≤ c ∧ c ≤ n - 1 then 0 else 1) (tC m h r c) (fun w' => MM E mo n m h sn sm sh e w') (fun w' => MM E mo n m h sn sm sh e w'))) := by
  refine call_of (av := [(1, mo), (0, r), (0, c)]) (by decide +kernel) rfl (Nat.le_of_ble_eq_true rfl) ?_
  intro X hX hF hname
  show GG X 0 0 w 0 [(1, mo), (0, r), (0, c)] []
  have hb := hM.1.b
  have hsb := hM.2.1.2
  skip
  refine g_aload_n (pc' := 1) hX dX4_costAt_0 rfl rfl ?_
  refine g_aload_n (pc' := 2) hX dX4_costAt_1 rfl rfl ?_
  refine g_iload_n (pc' := 3) hX dX4_costAt_2 rfl rfl ?_
  refine gV1E0 (pc' := 6) hX dX4_costAt_3 ml_X4_122 gc_X4 hM.1.h0 hM.1.hk (c_m_isRow hM.1 (by omega)) (Nat.le_of_ble_eq_true rfl) (by decide) rfl ?_
  refine g_if_eq (pc' := 9) (tgt := 17) hX dX4_costAt_6 (by decide) rfl (by omega) (fun h6 => ?_) (fun h6 => ?_)
  · skip
    refine g_iconst (pc' := 18) hX dX4_costAt_17 rfl ?_
    refine g_goto (tgt := 22) hX dX4_costAt_18 (by decide) ?_
    refine gV1I0 (pc' := 25) hX dX4_costAt_22 ml_X4_118 gc_X4 hM.1.h0 hM.1.hk (c_m_wrong hM (by omega)) (Nat.le_of_ble_eq_true rfl) (by decide) rfl (fun r22 w22 q22 => ?_)
    obtain ⟨hM, hWA, hR, h4, hr22⟩ := q22
    have hI := hM.1
    have hW : Fr (zB mo) w22 w22 := Fr.rf
    have e0 : r22 = 1 := by omega
    subst e0
    clear hr22
    skip
    refine g_if_eq (pc' := 28) (tgt := 32) hX dX4_costAt_25 (by decide) rfl (by omega) (fun h25 => absurd h25 (by omega)) (fun h25 => ?_)
    refine g_iconst (pc' := 29) hX dX4_costAt_28 rfl ?_
    refine g_goto (tgt := 38) hX dX4_costAt_29 (by decide) ?_
    exact g_retI hX hF dX4_costAt_38 (mP.bad hWA h4 (by omega) (by omega) hM)
  · skip
    refine g_aload_n (pc' := 10) hX dX4_costAt_9 rfl rfl ?_
    refine g_iload_n (pc' := 11) hX dX4_costAt_10 rfl rfl ?_
    refine gV1E0 (pc' := 14) hX dX4_costAt_11 ml_X4_122 gc_X4 hM.1.h0 hM.1.hk (c_m_isRow hM.1 (by omega)) (Nat.le_of_ble_eq_true rfl) (by decide) rfl ?_
    refine g_if_ne (pc' := 17) (tgt := 21) hX dX4_costAt_14 (by decide) rfl (by omega) (fun h14 => ?_) (fun h14 => ?_)
    · skip
      refine g_iconst (pc' := 22) hX dX4_costAt_21 rfl ?_
      refine gV1I0 (pc' := 25) hX dX4_costAt_22 ml_X4_118 gc_X4 hM.1.h0 hM.1.hk (c_m_wrong hM (by omega)) (Nat.le_of_ble_eq_true rfl) (by decide) rfl (fun r22 w22 q22 => ?_)
      obtain ⟨hM, hWA, hR, h4, hr22⟩ := q22
      have hI := hM.1
      have hW : Fr (zB mo) w22 w22 := Fr.rf
      have e0 : r22 = 0 := by omega
      subst e0
      clear hr22
      skip
      refine g_if_eq (pc' := 28) (tgt := 32) hX dX4_costAt_25 (by decide) rfl (by omega) (fun h25 => ?_) (fun h25 => absurd h25 (by omega))
      refine g_aload_n (pc' := 33) hX dX4_costAt_32 rfl rfl ?_
      refine g_iload_n (pc' := 34) hX dX4_costAt_33 rfl rfl ?_
      refine g_iload_n (pc' := 35) hX dX4_costAt_34 rfl rfl ?_
      refine gV2E0 (pc' := 38) hX dX4_costAt_35 ml_X4_75 gc_X4 hM.1.h0 hM.1.hk (c_m_costT hM (by omega) (by omega)) (Nat.le_of_ble_eq_true rfl) (by decide) rfl ?_
      exact g_retI hX hF dX4_costAt_38 (mP.okB hWA hW h4 (by omega) (hM) (rfl))
    · skip
      refine g_iconst (pc' := 18) hX dX4_costAt_17 rfl ?_
      refine g_goto (tgt := 22) hX dX4_costAt_18 (by decide) ?_
      refine gV1I0 (pc' := 25) hX dX4_costAt_22 ml_X4_118 gc_X4 hM.1.h0 hM.1.hk (c_m_wrong hM (by omega)) (Nat.le_of_ble_eq_true rfl) (by decide) rfl (fun r22 w22 q22 => ?_)
      obtain ⟨hM, hWA, hR, h4, hr22⟩ := q22
      have hI := hM.1
      have hW : Fr (zB mo) w22 w22 := Fr.rf
      have e0 : r22 = 1 := by omega
      subst e0
      clear hr22
      skip
      refine g_if_eq (pc' := 28) (tgt := 32) hX dX4_costAt_25 (by decide) rfl (by omega) (fun h25 => absurd h25 (by omega)) (fun h25 => ?_)
      refine g_iconst (pc' := 29) hX dX4_costAt_28 rfl ?_
      refine g_goto (tgt := 38) hX dX4_costAt_29 (by decide) ?_
      exact g_retI hX hF dX4_costAt_38 (mP.bad hWA h4 (by omega) (by omega) hM)

theorem c_mo_setForbidden {r c v : Int} (hM : MM E mo n m h sn sm sh e w) (br : -2147483648 ≤ r ∧ r ≤ 2147483647) (bc : -2147483648 ≤ c ∧ c ≤ 2147483647) (bv : -2147483648 ≤ v ∧ v ≤ 2147483647) (hv01 : v = 0 ∨ v = 1) : Call E mX4_setForbidden 2 0 0 [vR mo, vI r, vI c, vI v] w (qI (mP mo w ((if ¬ (0 ≤ r ∧ r ≤ n - 1 ∧ 0 ≤ c ∧ c ≤ m - 1) then 1 else 0)) (cF n m (fun i j => if i = r ∧ j = c then hhd (hno (h i j)) v else h i j)) (fun w' => MM E mo n m (fun i j => if i = r ∧ j = c then hhd (hno (h i j)) v else h i j) sn sm sh e.off w') (fun w' => MM E mo n m h sn sm sh e w'))) := by
  refine call_of (av := [(1, mo), (0, r), (0, c), (0, v)]) (by decide +kernel) rfl (Nat.le_of_ble_eq_true rfl) ?_
  intro X hX hF hname
  show GG X 0 0 w 0 [(1, mo), (0, r), (0, c), (0, v)] []
  have hb := hM.1.b
  have hsb := hM.2.1.2
  skip
  refine g_aload_n (pc' := 1) hX dX4_setForbidden_0 rfl rfl ?_
  refine g_aload_n (pc' := 2) hX dX4_setForbidden_1 rfl rfl ?_
  refine g_iload_n (pc' := 3) hX dX4_setForbidden_2 rfl rfl ?_
  refine gV1E0 (pc' := 6) hX dX4_setForbidden_3 ml_X4_122 gc_X4 hM.1.h0 hM.1.hk (c_m_isRow hM.1 (by omega)) (Nat.le_of_ble_eq_true rfl) (by decide) rfl ?_
  refine g_if_eq (pc' := 9) (tgt := 17) hX dX4_setForbidden_6 (by decide) rfl (by omega) (fun h6 => ?_) (fun h6 => ?_)
  · skip
    refine g_iconst (pc' := 18) hX dX4_setForbidden_17 rfl ?_
    refine g_goto (tgt := 22) hX dX4_setForbidden_18 (by decide) ?_
    refine gV1I0 (pc' := 25) hX dX4_setForbidden_22 ml_X4_118 gc_X4 hM.1.h0 hM.1.hk (c_m_wrong hM (by omega)) (Nat.le_of_ble_eq_true rfl) (by decide) rfl (fun r22 w22 q22 => ?_)
    obtain ⟨hM, hWA, hR, h4, hr22⟩ := q22
    have hI := hM.1
    have hW : Fr (zB mo) w22 w22 := Fr.rf
    have e0 : r22 = 1 := by omega
    subst e0
    clear hr22
    skip
    refine g_if_eq (pc' := 28) (tgt := 30) hX dX4_setForbidden_25 (by decide) rfl (by omega) (fun h25 => absurd h25 (by omega)) (fun h25 => ?_)
    refine g_iconst (pc' := 29) hX dX4_setForbidden_28 rfl ?_
    exact g_retI hX hF dX4_setForbidden_29 (mP.bad hWA h4 (by omega) (by omega) hM)
  · skip
    refine g_aload_n (pc' := 10) hX dX4_setForbidden_9 rfl rfl ?_
    refine g_iload_n (pc' := 11) hX dX4_setForbidden_10 rfl rfl ?_
    refine gV1E0 (pc' := 14) hX dX4_setForbidden_11 ml_X4_125 gc_X4 hM.1.h0 hM.1.hk (c_m_isReal hM.1 (by omega)) (Nat.le_of_ble_eq_true rfl) (by decide) rfl ?_
    refine g_if_ne (pc' := 17) (tgt := 21) hX dX4_setForbidden_14 (by decide) rfl (by omega) (fun h14 => ?_) (fun h14 => ?_)
    · skip
      refine g_iconst (pc' := 22) hX dX4_setForbidden_21 rfl ?_
      refine gV1I0 (pc' := 25) hX dX4_setForbidden_22 ml_X4_118 gc_X4 hM.1.h0 hM.1.hk (c_m_wrong hM (by omega)) (Nat.le_of_ble_eq_true rfl) (by decide) rfl (fun r22 w22 q22 => ?_)
      obtain ⟨hM, hWA, hR, h4, hr22⟩ := q22
      have hI := hM.1
      have hW : Fr (zB mo) w22 w22 := Fr.rf
      have e0 : r22 = 0 := by omega
      subst e0
      clear hr22
      skip
      refine g_if_eq (pc' := 28) (tgt := 30) hX dX4_setForbidden_25 (by decide) rfl (by omega) (fun h25 => ?_) (fun h25 => absurd h25 (by omega))
      refine g_aload_n (pc' := 31) hX dX4_setForbidden_30 rfl rfl ?_
      refine gf_X4_29 (pc' := 34) hX dX4_setForbidden_31 hM.1.h0 hM.1.hk rfl ?_
      rw [hM.1.f 7 (by decide) (show moF 7 = 3 by decide)]
      refine g_bipush (pc' := 36) hX dX4_setForbidden_34 rfl rfl ?_
      refine g_iload_n (pc' := 37) hX dX4_setForbidden_36 rfl rfl ?_
      refine g_imul (pc' := 38) hX dX4_setForbidden_37 rfl ?_
      refine g_iload_n (pc' := 39) hX dX4_setForbidden_38 rfl rfl ?_
      refine g_iadd (pc' := 40) hX dX4_setForbidden_39 rfl ?_
      refine g_iload_n (pc' := 41) hX dX4_setForbidden_40 rfl rfl ?_
      refine g_zastL (pc' := 42) hX dX4_setForbidden_41 (by have := hM.1.hb; omega) (hM.1.k 3 (by decide) (show moK 3 = 51 by decide)) (hM.1.l 3 (by decide) (show moN 3 = 49 by decide)) (by omega) (by omega) rfl ?_
      refine hM.stF hW (by omega) (by unfold zB; omega) (fun hM hW => ?_)
      refine g_aload_n (pc' := 43) hX dX4_setForbidden_42 rfl rfl ?_
      refine g_iconst (pc' := 44) hX dX4_setForbidden_43 rfl ?_
      refine pf_X4_48 (pc' := 47) hX dX4_setForbidden_44 hM.1.hb hM.1.hk rfl ?_
      refine hM.stO hW (by unfold zB; omega) (fun hM hW => ?_)
      have hM := hM.cg (h' := fun i j => if i = r ∧ j = c then hhd (hno (h i j)) v else h i j) (fun i j i0 i1 j0 j1 => by split <;> split <;> first | rfl | omega)
      refine g_aload_n (pc' := 48) hX dX4_setForbidden_47 rfl rfl ?_
      refine gV0E0 (pc' := 51) hX dX4_setForbidden_48 ml_X4_134 gc_X4 hM.1.h0 hM.1.hk (c_m_fbMany hM) (Nat.le_of_ble_eq_true rfl) (by decide) rfl ?_
      exact g_retI hX hF dX4_setForbidden_51 (mP.okB hWA hW h4 (by omega) (hM) (rfl))
    · skip
      refine g_iconst (pc' := 18) hX dX4_setForbidden_17 rfl ?_
      refine g_goto (tgt := 22) hX dX4_setForbidden_18 (by decide) ?_
      refine gV1I0 (pc' := 25) hX dX4_setForbidden_22 ml_X4_118 gc_X4 hM.1.h0 hM.1.hk (c_m_wrong hM (by omega)) (Nat.le_of_ble_eq_true rfl) (by decide) rfl (fun r22 w22 q22 => ?_)
      obtain ⟨hM, hWA, hR, h4, hr22⟩ := q22
      have hI := hM.1
      have hW : Fr (zB mo) w22 w22 := Fr.rf
      have e0 : r22 = 1 := by omega
      subst e0
      clear hr22
      skip
      refine g_if_eq (pc' := 28) (tgt := 30) hX dX4_setForbidden_25 (by decide) rfl (by omega) (fun h25 => absurd h25 (by omega)) (fun h25 => ?_)
      refine g_iconst (pc' := 29) hX dX4_setForbidden_28 rfl ?_
      exact g_retI hX hF dX4_setForbidden_29 (mP.bad hWA h4 (by omega) (by omega) hM)

theorem c_m_takes {r c v : Int} (hM : MM E mo n m h sn sm sh e w) (hr : 0 ≤ r ∧ r < 7) (hc : 0 ≤ c ∧ c < 7) (hv : -99 ≤ v ∧ v ≤ 99) : Call E mX4_takes 1 0 0 [vR mo, vI r, vI c, vI v] w (qE (tk h v r c) w) := by
  refine call_of (av := [(1, mo), (0, r), (0, c), (0, v)]) (by decide +kernel) rfl (Nat.le_of_ble_eq_true rfl) ?_
  intro X hX hF hname
  show GG X 0 0 w 0 [(1, mo), (0, r), (0, c), (0, v)] []
  have hb := hM.1.b
  have hsb := hM.2.1.2
  skip
  refine g_aload_n (pc' := 1) hX dX4_takes_0 rfl rfl ?_
  refine gf_X4_29 (pc' := 4) hX dX4_takes_1 hM.1.h0 hM.1.hk rfl ?_
  rw [hM.1.f 7 (by decide) (show moF 7 = 3 by decide)]
  refine g_bipush (pc' := 6) hX dX4_takes_4 rfl rfl ?_
  refine g_iload_n (pc' := 7) hX dX4_takes_6 rfl rfl ?_
  refine g_imul (pc' := 8) hX dX4_takes_7 rfl ?_
  refine g_iload_n (pc' := 9) hX dX4_takes_8 rfl rfl ?_
  refine g_iadd (pc' := 10) hX dX4_takes_9 rfl ?_
  refine g_zaldL (pc' := 11) hX dX4_takes_10 (by have := hM.1.h0; omega) (hM.1.k 3 (by decide) (show moK 3 = 51 by decide)) (hM.1.l 3 (by decide) (show moN 3 = 49 by decide)) (by omega) rfl ?_
  rw [hM.2.2.1.g r c (by omega) (by omega)]
  have hf1 := hfg_b (v := h r c)
  refine g_if_ne (pc' := 14) (tgt := 42) hX dX4_takes_11 (by decide) rfl (by omega) (fun h11 => ?_) (fun h11 => ?_)
  · skip
    refine g_iconst (pc' := 43) hX dX4_takes_42 rfl ?_
    exact g_retEZ hX hF dX4_takes_43 (by omega) (by unfold tk; (try unfold hfg at *); (try unfold hno at *); omega) rfl
  · skip
    refine g_aload_n (pc' := 15) hX dX4_takes_14 rfl rfl ?_
    refine gf_X4_22 (pc' := 18) hX dX4_takes_15 hM.1.h0 hM.1.hk rfl ?_
    rw [hM.1.f 5 (by decide) (show moF 5 = 1 by decide)]
    refine g_bipush (pc' := 20) hX dX4_takes_18 rfl rfl ?_
    refine g_iload_n (pc' := 21) hX dX4_takes_20 rfl rfl ?_
    refine g_imul (pc' := 22) hX dX4_takes_21 rfl ?_
    refine g_iload_n (pc' := 23) hX dX4_takes_22 rfl rfl ?_
    refine g_iadd (pc' := 24) hX dX4_takes_23 rfl ?_
    refine g_ialdL (pc' := 25) hX dX4_takes_24 (by have := hM.1.h0; omega) (hM.1.k 1 (by decide) (show moK 1 = 50 by decide)) (hM.1.l 1 (by decide) (show moN 1 = 49 by decide)) (by omega) rfl ?_
    rw [hM.2.2.1.v r c (by omega) (by omega)]
    have hn1 := hno_b (hM.hb r c (by omega) (by omega))
    refine g_iload_n (pc' := 26) hX dX4_takes_25 rfl rfl ?_
    refine g_iadd (pc' := 27) hX dX4_takes_26 rfl ?_
    refine g_i2l (pc' := 28) hX dX4_takes_27 (by omega) rfl ?_
    refine g_lconst (pc' := 29) (v := 0) hX dX4_takes_28 rfl rfl ?_
    refine g_ldc2 (pc' := 32) (n := 99) hX dX4_takes_29 q1619 rfl rfl ?_
    refine gS3E0 (pc' := 35) hX dX4_takes_32 ml_X4_63 (c_m_isIn (by omega) (by omega) (by omega)) (Nat.le_of_ble_eq_true rfl) (by decide) rfl ?_
    refine g_if_eq (pc' := 38) (tgt := 42) hX dX4_takes_35 (by decide) rfl (by omega) (fun h35 => ?_) (fun h35 => ?_)
    · skip
      refine g_iconst (pc' := 43) hX dX4_takes_42 rfl ?_
      exact g_retEZ hX hF dX4_takes_43 (by omega) (by unfold tk; (try unfold hfg at *); (try unfold hno at *); omega) rfl
    · skip
      refine g_iconst (pc' := 39) hX dX4_takes_38 rfl ?_
      refine g_goto (tgt := 43) hX dX4_takes_39 (by decide) ?_
      exact g_retEZ hX hF dX4_takes_43 (by omega) (by unfold tk; (try unfold hfg at *); (try unfold hno at *); omega) rfl

theorem c_m_exchangeCells {a b r c r2 c2 : Int} (ha : a = 7 * r + c) (hb2 : b = 7 * r2 + c2) (hM : MM E mo n m h sn sm sh e w) (hr : 0 ≤ r ∧ r < 7) (hc : 0 ≤ c ∧ c < 7) (hr2 : 0 ≤ r2 ∧ r2 < 7) (hc2 : 0 ≤ c2 ∧ c2 < 7) : Call E mX4_exchangeCells 0 0 0 [vR mo, vI a, vI b] w (qU (fun w' => MM E mo n m (fun x y => if x = r ∧ y = c then h r2 c2 else if x = r2 ∧ y = c2 then h r c else h x y) sn sm sh e w' ∧ Fr (zB mo) w w')) := by
  refine call_of (av := [(1, mo), (0, a), (0, b)]) (by decide +kernel) rfl (Nat.le_of_ble_eq_true rfl) ?_
  intro X hX hF hname
  show GG X 0 0 w 0 [(1, mo), (0, a), (0, b), (9, 0), (9, 0)] []
  have hb := hM.1.b
  have hsb := hM.2.1.2
  skip
  refine g_aload_n (pc' := 1) hX dX4_exchangeCells_0 rfl rfl ?_
  refine gf_X4_22 (pc' := 4) hX dX4_exchangeCells_1 hM.1.h0 hM.1.hk rfl ?_
  rw [hM.1.f 5 (by decide) (show moF 5 = 1 by decide)]
  refine g_iload_n (pc' := 5) hX dX4_exchangeCells_4 rfl rfl ?_
  refine g_ialdL (pc' := 6) hX dX4_exchangeCells_5 (by have := hM.1.h0; omega) (hM.1.k 1 (by decide) (show moK 1 = 50 by decide)) (hM.1.l 1 (by decide) (show moN 1 = 49 by decide)) (by omega) rfl ?_
  refine g_istore_n_3 (pc' := 7) hX dX4_exchangeCells_6 (by decide) rfl rfl ?_
  refine g_aload_n (pc' := 8) hX dX4_exchangeCells_7 rfl rfl ?_
  refine gf_X4_29 (pc' := 11) hX dX4_exchangeCells_8 hM.1.h0 hM.1.hk rfl ?_
  rw [hM.1.f 7 (by decide) (show moF 7 = 3 by decide)]
  refine g_iload_n (pc' := 12) hX dX4_exchangeCells_11 rfl rfl ?_
  refine g_zaldL (pc' := 13) hX dX4_exchangeCells_12 (by have := hM.1.h0; omega) (hM.1.k 3 (by decide) (show moK 3 = 51 by decide)) (hM.1.l 3 (by decide) (show moN 3 = 49 by decide)) (by omega) rfl ?_
  refine g_istore_4 (pc' := 15) hX dX4_exchangeCells_13 (by decide) rfl rfl ?_
  refine g_aload_n (pc' := 16) hX dX4_exchangeCells_15 rfl rfl ?_
  refine gf_X4_22 (pc' := 19) hX dX4_exchangeCells_16 hM.1.h0 hM.1.hk rfl ?_
  rw [hM.1.f 5 (by decide) (show moF 5 = 1 by decide)]
  refine g_iload_n (pc' := 20) hX dX4_exchangeCells_19 rfl rfl ?_
  refine g_aload_n (pc' := 21) hX dX4_exchangeCells_20 rfl rfl ?_
  refine gf_X4_22 (pc' := 24) hX dX4_exchangeCells_21 hM.1.h0 hM.1.hk rfl ?_
  rw [hM.1.f 5 (by decide) (show moF 5 = 1 by decide)]
  refine g_iload_n (pc' := 25) hX dX4_exchangeCells_24 rfl rfl ?_
  refine g_ialdL (pc' := 26) hX dX4_exchangeCells_25 (by have := hM.1.h0; omega) (hM.1.k 1 (by decide) (show moK 1 = 50 by decide)) (hM.1.l 1 (by decide) (show moN 1 = 49 by decide)) (by omega) rfl ?_
  refine g_iastL (pc' := 27) hX dX4_exchangeCells_26 (by have := hM.1.hb; omega) (hM.1.k 1 (by decide) (show moK 1 = 50 by decide)) (hM.1.l 1 (by decide) (show moN 1 = 49 by decide)) (by omega) rfl ?_
  skip
  refine g_aload_n (pc' := 28) hX dX4_exchangeCells_27 rfl rfl ?_
  refine gf_X4_29 (pc' := 31) hX dX4_exchangeCells_28 hM.1.h0 hM.1.hk rfl ?_
  first
    | rw [hM.1.f 7 (by decide) (show moF 7 = 3 by decide)]
    | (repeat rw [rd_up_ne (by omega)]); rw [hM.1.f 7 (by decide) (show moF 7 = 3 by decide)]
  refine g_iload_n (pc' := 32) hX dX4_exchangeCells_31 rfl rfl ?_
  refine g_aload_n (pc' := 33) hX dX4_exchangeCells_32 rfl rfl ?_
  refine gf_X4_29 (pc' := 36) hX dX4_exchangeCells_33 hM.1.h0 hM.1.hk rfl ?_
  first
    | rw [hM.1.f 7 (by decide) (show moF 7 = 3 by decide)]
    | (repeat rw [rd_up_ne (by omega)]); rw [hM.1.f 7 (by decide) (show moF 7 = 3 by decide)]
  refine g_iload_n (pc' := 37) hX dX4_exchangeCells_36 rfl rfl ?_
  refine g_zaldL (pc' := 38) hX dX4_exchangeCells_37 (by have := hM.1.h0; omega) (hM.1.k 3 (by decide) (show moK 3 = 51 by decide)) (hM.1.l 3 (by decide) (show moN 3 = 49 by decide)) (by omega) rfl ?_
  repeat (first | rw [rd_up_ne (by omega)] | rw [rd_up_eq (by omega)])
  refine g_zastL (pc' := 39) hX dX4_exchangeCells_38 (by have := hM.1.hb; omega) (hM.1.k 3 (by decide) (show moK 3 = 51 by decide)) (hM.1.l 3 (by decide) (show moN 3 = 49 by decide)) (by omega) (by have := hM.fb b (by omega) (by omega); omega) rfl ?_
  skip
  refine g_aload_n (pc' := 40) hX dX4_exchangeCells_39 rfl rfl ?_
  refine gf_X4_22 (pc' := 43) hX dX4_exchangeCells_40 hM.1.h0 hM.1.hk rfl ?_
  first
    | rw [hM.1.f 5 (by decide) (show moF 5 = 1 by decide)]
    | (repeat rw [rd_up_ne (by omega)]); rw [hM.1.f 5 (by decide) (show moF 5 = 1 by decide)]
  refine g_iload_n (pc' := 44) hX dX4_exchangeCells_43 rfl rfl ?_
  refine g_iload_n (pc' := 45) hX dX4_exchangeCells_44 rfl rfl ?_
  refine g_iastL (pc' := 46) hX dX4_exchangeCells_45 (by have := hM.1.hb; omega) (hM.1.k 1 (by decide) (show moK 1 = 50 by decide)) (hM.1.l 1 (by decide) (show moN 1 = 49 by decide)) (by omega) rfl ?_
  skip
  refine g_aload_n (pc' := 47) hX dX4_exchangeCells_46 rfl rfl ?_
  refine gf_X4_29 (pc' := 50) hX dX4_exchangeCells_47 hM.1.h0 hM.1.hk rfl ?_
  first
    | rw [hM.1.f 7 (by decide) (show moF 7 = 3 by decide)]
    | (repeat rw [rd_up_ne (by omega)]); rw [hM.1.f 7 (by decide) (show moF 7 = 3 by decide)]
  refine g_iload_n (pc' := 51) hX dX4_exchangeCells_50 rfl rfl ?_
  refine g_iload (pc' := 53) hX dX4_exchangeCells_51 rfl rfl ?_
  refine g_zastL (pc' := 54) hX dX4_exchangeCells_53 (by have := hM.1.hb; omega) (hM.1.k 3 (by decide) (show moK 3 = 51 by decide)) (hM.1.l 3 (by decide) (show moN 3 = 49 by decide)) (by omega) (by have := hM.fb a (by omega) (by omega); omega) rfl ?_
  skip
  subst ha; subst hb2
  have hF4 := (((Fr.rf (P := fun a _ => a = mo + 1 ∨ a = mo + 3) (w := w)).up (a := mo + 1) (i := 7 * r + c) (x := rdw w (mo + 1) (7 * r2 + c2)) (Or.inl rfl)).up (a := mo + 3) (i := 7 * r + c) (x := rdw w (mo + 3) (7 * r2 + c2)) (Or.inr rfl)).up (a := mo + 1) (i := 7 * r2 + c2) (x := rdw w (mo + 1) (7 * r + c)) (Or.inl rfl) |>.up (a := mo + 3) (i := 7 * r2 + c2) (x := rdw w (mo + 3) (7 * r + c)) (Or.inr rfl)
  exact g_retU hX hF dX4_exchangeCells_54 ⟨⟨hM.1.fr hF4 (fun i z => by omega), hM.2.1.fr hF4 (fun i z => by omega), hM.2.2.1.exch (by omega) hr hc hr2 hc2, hM.2.2.2.1.fr hF4 (fun i z => by omega) (fun i z => by omega), hM.2.2.2.2.fr hF4 (fun i z => by omega) (fun i z => by omega)⟩, hF4.wk (fun a i z => by unfold zB; omega)⟩

theorem c_mo_swapRows {r c : Int} (hM : MM E mo n m h sn sm sh e w) (br : -2147483648 ≤ r ∧ r ≤ 2147483647) (bc : -2147483648 ≤ c ∧ c ≤ 2147483647)  : Call E mX4_swapRows 2 0 0 [vR mo, vI r, vI c] w (qI (mP mo w (if 0 ≤ r ∧ r ≤ n - 1 ∧ 0 ≤ c ∧ c ≤ n - 1 then 0 else 1) (rS n m (fun x y => if y < m then (if x = r then h c y else if x = c then h r y else h x y) else h x y) r) (fun w' => MM E mo n m (fun x y => if y < m then (if x = r then h c y else if x = c then h r y else h x y) else h x y) sn sm sh e.off w') (fun w' => MM E mo n m h sn sm sh e w'))) := by
  refine call_of (av := [(1, mo), (0, r), (0, c)]) (by decide +kernel) rfl (Nat.le_of_ble_eq_true rfl) ?_
  intro X hX hF hname
  show GG X 0 0 w 0 [(1, mo), (0, r), (0, c), (9, 0)] []
  have hb := hM.1.b
  have hsb := hM.2.1.2
  skip
  refine g_aload_n (pc' := 1) hX dX4_swapRows_0 rfl rfl ?_
  refine g_aload_n (pc' := 2) hX dX4_swapRows_1 rfl rfl ?_
  refine g_iload_n (pc' := 3) hX dX4_swapRows_2 rfl rfl ?_
  refine gV1E0 (pc' := 6) hX dX4_swapRows_3 ml_X4_122 gc_X4 hM.1.h0 hM.1.hk (c_m_isRow hM.1 (by omega)) (Nat.le_of_ble_eq_true rfl) (by decide) rfl ?_
  refine g_if_eq (pc' := 9) (tgt := 17) hX dX4_swapRows_6 (by decide) rfl (by omega) (fun h6 => ?_) (fun h6 => ?_)
  · skip
    refine g_iconst (pc' := 18) hX dX4_swapRows_17 rfl ?_
    refine g_goto (tgt := 22) hX dX4_swapRows_18 (by decide) ?_
    refine gV1I0 (pc' := 25) hX dX4_swapRows_22 ml_X4_118 gc_X4 hM.1.h0 hM.1.hk (c_m_wrong hM (by omega)) (Nat.le_of_ble_eq_true rfl) (by decide) rfl (fun r22 w22 q22 => ?_)
    obtain ⟨hM, hWA, hR, h4, hr22⟩ := q22
    have hI := hM.1
    have hW : Fr (zB mo) w22 w22 := Fr.rf
    have e0 : r22 = 1 := by omega
    subst e0
    clear hr22
    skip
    refine g_if_eq (pc' := 28) (tgt := 30) hX dX4_swapRows_25 (by decide) rfl (by omega) (fun h25 => absurd h25 (by omega)) (fun h25 => ?_)
    refine g_iconst (pc' := 29) hX dX4_swapRows_28 rfl ?_
    exact g_retI hX hF dX4_swapRows_29 (mP.bad hWA h4 (by omega) (by omega) hM)
  · skip
    refine g_aload_n (pc' := 10) hX dX4_swapRows_9 rfl rfl ?_
    refine g_iload_n (pc' := 11) hX dX4_swapRows_10 rfl rfl ?_
    refine gV1E0 (pc' := 14) hX dX4_swapRows_11 ml_X4_122 gc_X4 hM.1.h0 hM.1.hk (c_m_isRow hM.1 (by omega)) (Nat.le_of_ble_eq_true rfl) (by decide) rfl ?_
    refine g_if_ne (pc' := 17) (tgt := 21) hX dX4_swapRows_14 (by decide) rfl (by omega) (fun h14 => ?_) (fun h14 => ?_)
    · skip
      refine g_iconst (pc' := 22) hX dX4_swapRows_21 rfl ?_
      refine gV1I0 (pc' := 25) hX dX4_swapRows_22 ml_X4_118 gc_X4 hM.1.h0 hM.1.hk (c_m_wrong hM (by omega)) (Nat.le_of_ble_eq_true rfl) (by decide) rfl (fun r22 w22 q22 => ?_)
      obtain ⟨hM, hWA, hR, h4, hr22⟩ := q22
      have hI := hM.1
      have hW : Fr (zB mo) w22 w22 := Fr.rf
      have e0 : r22 = 0 := by omega
      subst e0
      clear hr22
      skip
      refine g_if_eq (pc' := 28) (tgt := 30) hX dX4_swapRows_25 (by decide) rfl (by omega) (fun h25 => ?_) (fun h25 => absurd h25 (by omega))
      refine g_iconst (pc' := 31) hX dX4_swapRows_30 rfl ?_
      refine g_istore_n_3 (pc' := 32) hX dX4_swapRows_31 (by decide) rfl rfl ?_
      have loop : ∀ (f : Nat) (j : Int) (h1 : Int → Int → Int) (w1 : Wd), 0 ≤ j → j ≤ m → MM E mo n m h1 sn sm sh e w1 → Fr (zB mo) w22 w1 → (∀ x y : Int, 0 ≤ x → x < 7 → 0 ≤ y → y < 7 → h1 x y = if y < j then (if x = r then h c y else if x = c then h r y else h x y) else h x y) → m < j + f → GG X 0 0 w1 32 [(1, mo), (0, r), (0, c), (0, j)] [] := by
        intro f
        induction f with
        | zero => intro j h1 w1 h0 h7 hM hW hA hf; exact absurd hf (by omega)
        | succ f ih =>
          intro j h1 w1 h0 h7 hM hW hA hf
          refine g_iload_n (pc' := 33) hX dX4_swapRows_32 rfl rfl ?_
          refine g_aload_n (pc' := 34) hX dX4_swapRows_33 rfl rfl ?_
          refine gf_X4_13 (pc' := 37) hX dX4_swapRows_34 hM.1.h0 hM.1.hk rfl ?_
          rw [hM.1.vm]
          refine g_icmp_ge (pc' := 40) (tgt := 62) hX dX4_swapRows_37 (by decide) rfl (by omega) (by omega) (fun h37 => ?_) (fun h37 => ?_)
          · skip
            refine g_aload_n (pc' := 63) hX dX4_swapRows_62 rfl rfl ?_
            refine g_iconst (pc' := 64) hX dX4_swapRows_63 rfl ?_
            refine pf_X4_48 (pc' := 67) hX dX4_swapRows_64 hM.1.hb hM.1.hk rfl ?_
            refine hM.stO hW (by unfold zB; omega) (fun hM hW => ?_)
            have hM := hM.cg (h' := fun x y => if y < m then (if x = r then h c y else if x = c then h r y else h x y) else h x y) (fun x y x0 x1 y0 y1 => by rw [hA x y x0 x1 y0 y1]; (repeat' split) <;> first | rfl | omega | grind)
            refine g_aload_n (pc' := 68) hX dX4_swapRows_67 rfl rfl ?_
            refine g_iload_n (pc' := 69) hX dX4_swapRows_68 rfl rfl ?_
            refine gV1E0 (pc' := 72) hX dX4_swapRows_69 ml_X4_144 gc_X4 hM.1.h0 hM.1.hk (c_m_rowSum hM (by omega)) (Nat.le_of_ble_eq_true rfl) (by decide) rfl ?_
            exact g_retI hX hF dX4_swapRows_72 (mP.okB hWA hW h4 (by omega) (hM) (rfl))
          · skip
            refine g_aload_n (pc' := 41) hX dX4_swapRows_40 rfl rfl ?_
            refine g_bipush (pc' := 43) hX dX4_swapRows_41 rfl rfl ?_
            refine g_iload_n (pc' := 44) hX dX4_swapRows_43 rfl rfl ?_
            refine g_imul (pc' := 45) hX dX4_swapRows_44 rfl ?_
            refine g_iload_n (pc' := 46) hX dX4_swapRows_45 rfl rfl ?_
            refine g_iadd (pc' := 47) hX dX4_swapRows_46 rfl ?_
            refine g_bipush (pc' := 49) hX dX4_swapRows_47 rfl rfl ?_
            refine g_iload_n (pc' := 50) hX dX4_swapRows_49 rfl rfl ?_
            refine g_imul (pc' := 51) hX dX4_swapRows_50 rfl ?_
            refine g_iload_n (pc' := 52) hX dX4_swapRows_51 rfl rfl ?_
            refine g_iadd (pc' := 53) hX dX4_swapRows_52 rfl ?_
            refine gV2U0 (pc' := 56) hX dX4_swapRows_53 ml_X4_150 gc_X4 hM.1.h0 hM.1.hk (c_m_exchangeCells rfl rfl hM (by omega) (by omega) (by omega) (by omega)) (Nat.le_of_ble_eq_true rfl) (by decide) rfl (fun w53 q53 => ?_)
            obtain ⟨hM, hW2⟩ := q53
            have hW := hW.tr hW2
            refine g_iinc_3 (pc' := 59) hX dX4_swapRows_56 (by decide) rfl rfl ?_
            refine g_goto (tgt := 32) hX dX4_swapRows_59 (by decide) ?_
            exact ih (j + 1) _ _ (by omega) (by omega) hM hW (fun x y x0 x1 y0 y1 => by
              rw [hA x y x0 x1 y0 y1, hA r j (by omega) (by omega) (by omega) (by omega), hA c j (by omega) (by omega) (by omega) (by omega)]
              (repeat' split) <;> first | rfl | omega | grind) (by omega)
      exact loop 8 0 h w22 (by omega) (by omega) hM hW (fun x y x0 x1 y0 y1 => by rw [if_neg (by omega)]) (by omega)
    · skip
      refine g_iconst (pc' := 18) hX dX4_swapRows_17 rfl ?_
      refine g_goto (tgt := 22) hX dX4_swapRows_18 (by decide) ?_
      refine gV1I0 (pc' := 25) hX dX4_swapRows_22 ml_X4_118 gc_X4 hM.1.h0 hM.1.hk (c_m_wrong hM (by omega)) (Nat.le_of_ble_eq_true rfl) (by decide) rfl (fun r22 w22 q22 => ?_)
      obtain ⟨hM, hWA, hR, h4, hr22⟩ := q22
      have hI := hM.1
      have hW : Fr (zB mo) w22 w22 := Fr.rf
      have e0 : r22 = 1 := by omega
      subst e0
      clear hr22
      skip
      refine g_if_eq (pc' := 28) (tgt := 30) hX dX4_swapRows_25 (by decide) rfl (by omega) (fun h25 => absurd h25 (by omega)) (fun h25 => ?_)
      refine g_iconst (pc' := 29) hX dX4_swapRows_28 rfl ?_
      exact g_retI hX hF dX4_swapRows_29 (mP.bad hWA h4 (by omega) (by omega) hM)

theorem c_mo_swapColumns {r c : Int} (hM : MM E mo n m h sn sm sh e w) (br : -2147483648 ≤ r ∧ r ≤ 2147483647) (bc : -2147483648 ≤ c ∧ c ≤ 2147483647)  : Call E mX4_swapColumns 2 0 0 [vR mo, vI r, vI c] w (qI (mP mo w (if 0 ≤ r ∧ r ≤ m - 1 ∧ 0 ≤ c ∧ c ≤ m - 1 then 0 else 1) (clS n m (fun x y => if x < n then (if y = r then h x c else if y = c then h x r else h x y) else h x y) r) (fun w' => MM E mo n m (fun x y => if x < n then (if y = r then h x c else if y = c then h x r else h x y) else h x y) sn sm sh e.off w') (fun w' => MM E mo n m h sn sm sh e w'))) := by
  refine call_of (av := [(1, mo), (0, r), (0, c)]) (by decide +kernel) rfl (Nat.le_of_ble_eq_true rfl) ?_
  intro X hX hF hname
  show GG X 0 0 w 0 [(1, mo), (0, r), (0, c), (9, 0)] []
  have hb := hM.1.b
  have hsb := hM.2.1.2
  skip
  refine g_aload_n (pc' := 1) hX dX4_swapColumns_0 rfl rfl ?_
  refine g_aload_n (pc' := 2) hX dX4_swapColumns_1 rfl rfl ?_
  refine g_iload_n (pc' := 3) hX dX4_swapColumns_2 rfl rfl ?_
  refine gV1E0 (pc' := 6) hX dX4_swapColumns_3 ml_X4_125 gc_X4 hM.1.h0 hM.1.hk (c_m_isReal hM.1 (by omega)) (Nat.le_of_ble_eq_true rfl) (by decide) rfl ?_
  refine g_if_eq (pc' := 9) (tgt := 17) hX dX4_swapColumns_6 (by decide) rfl (by omega) (fun h6 => ?_) (fun h6 => ?_)
  · skip
    refine g_iconst (pc' := 18) hX dX4_swapColumns_17 rfl ?_
    refine g_goto (tgt := 22) hX dX4_swapColumns_18 (by decide) ?_
    refine gV1I0 (pc' := 25) hX dX4_swapColumns_22 ml_X4_118 gc_X4 hM.1.h0 hM.1.hk (c_m_wrong hM (by omega)) (Nat.le_of_ble_eq_true rfl) (by decide) rfl (fun r22 w22 q22 => ?_)
    obtain ⟨hM, hWA, hR, h4, hr22⟩ := q22
    have hI := hM.1
    have hW : Fr (zB mo) w22 w22 := Fr.rf
    have e0 : r22 = 1 := by omega
    subst e0
    clear hr22
    skip
    refine g_if_eq (pc' := 28) (tgt := 30) hX dX4_swapColumns_25 (by decide) rfl (by omega) (fun h25 => absurd h25 (by omega)) (fun h25 => ?_)
    refine g_iconst (pc' := 29) hX dX4_swapColumns_28 rfl ?_
    exact g_retI hX hF dX4_swapColumns_29 (mP.bad hWA h4 (by omega) (by omega) hM)
  · skip
    refine g_aload_n (pc' := 10) hX dX4_swapColumns_9 rfl rfl ?_
    refine g_iload_n (pc' := 11) hX dX4_swapColumns_10 rfl rfl ?_
    refine gV1E0 (pc' := 14) hX dX4_swapColumns_11 ml_X4_125 gc_X4 hM.1.h0 hM.1.hk (c_m_isReal hM.1 (by omega)) (Nat.le_of_ble_eq_true rfl) (by decide) rfl ?_
    refine g_if_ne (pc' := 17) (tgt := 21) hX dX4_swapColumns_14 (by decide) rfl (by omega) (fun h14 => ?_) (fun h14 => ?_)
    · skip
      refine g_iconst (pc' := 22) hX dX4_swapColumns_21 rfl ?_
      refine gV1I0 (pc' := 25) hX dX4_swapColumns_22 ml_X4_118 gc_X4 hM.1.h0 hM.1.hk (c_m_wrong hM (by omega)) (Nat.le_of_ble_eq_true rfl) (by decide) rfl (fun r22 w22 q22 => ?_)
      obtain ⟨hM, hWA, hR, h4, hr22⟩ := q22
      have hI := hM.1
      have hW : Fr (zB mo) w22 w22 := Fr.rf
      have e0 : r22 = 0 := by omega
      subst e0
      clear hr22
      skip
      refine g_if_eq (pc' := 28) (tgt := 30) hX dX4_swapColumns_25 (by decide) rfl (by omega) (fun h25 => ?_) (fun h25 => absurd h25 (by omega))
      refine g_iconst (pc' := 31) hX dX4_swapColumns_30 rfl ?_
      refine g_istore_n_3 (pc' := 32) hX dX4_swapColumns_31 (by decide) rfl rfl ?_
      have loop : ∀ (f : Nat) (j : Int) (h1 : Int → Int → Int) (w1 : Wd), 0 ≤ j → j ≤ n → MM E mo n m h1 sn sm sh e w1 → Fr (zB mo) w22 w1 → (∀ x y : Int, 0 ≤ x → x < 7 → 0 ≤ y → y < 7 → h1 x y = if x < j then (if y = r then h x c else if y = c then h x r else h x y) else h x y) → n < j + f → GG X 0 0 w1 32 [(1, mo), (0, r), (0, c), (0, j)] [] := by
        intro f
        induction f with
        | zero => intro j h1 w1 h0 h7 hM hW hA hf; exact absurd hf (by omega)
        | succ f ih =>
          intro j h1 w1 h0 h7 hM hW hA hf
          refine g_iload_n (pc' := 33) hX dX4_swapColumns_32 rfl rfl ?_
          refine g_aload_n (pc' := 34) hX dX4_swapColumns_33 rfl rfl ?_
          refine gf_X4_7 (pc' := 37) hX dX4_swapColumns_34 hM.1.h0 hM.1.hk rfl ?_
          rw [hM.1.vn]
          refine g_icmp_ge (pc' := 40) (tgt := 62) hX dX4_swapColumns_37 (by decide) rfl (by omega) (by omega) (fun h37 => ?_) (fun h37 => ?_)
          · skip
            refine g_aload_n (pc' := 63) hX dX4_swapColumns_62 rfl rfl ?_
            refine g_iconst (pc' := 64) hX dX4_swapColumns_63 rfl ?_
            refine pf_X4_48 (pc' := 67) hX dX4_swapColumns_64 hM.1.hb hM.1.hk rfl ?_
            refine hM.stO hW (by unfold zB; omega) (fun hM hW => ?_)
            have hM := hM.cg (h' := fun x y => if x < n then (if y = r then h x c else if y = c then h x r else h x y) else h x y) (fun x y x0 x1 y0 y1 => by rw [hA x y x0 x1 y0 y1]; (repeat' split) <;> first | rfl | omega | grind)
            refine g_aload_n (pc' := 68) hX dX4_swapColumns_67 rfl rfl ?_
            refine g_iload_n (pc' := 69) hX dX4_swapColumns_68 rfl rfl ?_
            refine gV1E0 (pc' := 72) hX dX4_swapColumns_69 ml_X4_147 gc_X4 hM.1.h0 hM.1.hk (c_m_columnSum hM (by omega)) (Nat.le_of_ble_eq_true rfl) (by decide) rfl ?_
            exact g_retI hX hF dX4_swapColumns_72 (mP.okB hWA hW h4 (by omega) (hM) (rfl))
          · skip
            refine g_aload_n (pc' := 41) hX dX4_swapColumns_40 rfl rfl ?_
            refine g_bipush (pc' := 43) hX dX4_swapColumns_41 rfl rfl ?_
            refine g_iload_n (pc' := 44) hX dX4_swapColumns_43 rfl rfl ?_
            refine g_imul (pc' := 45) hX dX4_swapColumns_44 rfl ?_
            refine g_iload_n (pc' := 46) hX dX4_swapColumns_45 rfl rfl ?_
            refine g_iadd (pc' := 47) hX dX4_swapColumns_46 rfl ?_
            refine g_bipush (pc' := 49) hX dX4_swapColumns_47 rfl rfl ?_
            refine g_iload_n (pc' := 50) hX dX4_swapColumns_49 rfl rfl ?_
            refine g_imul (pc' := 51) hX dX4_swapColumns_50 rfl ?_
            refine g_iload_n (pc' := 52) hX dX4_swapColumns_51 rfl rfl ?_
            refine g_iadd (pc' := 53) hX dX4_swapColumns_52 rfl ?_
            refine gV2U0 (pc' := 56) hX dX4_swapColumns_53 ml_X4_150 gc_X4 hM.1.h0 hM.1.hk (c_m_exchangeCells rfl rfl hM (by omega) (by omega) (by omega) (by omega)) (Nat.le_of_ble_eq_true rfl) (by decide) rfl (fun w53 q53 => ?_)
            obtain ⟨hM, hW2⟩ := q53
            have hW := hW.tr hW2
            refine g_iinc_3 (pc' := 59) hX dX4_swapColumns_56 (by decide) rfl rfl ?_
            refine g_goto (tgt := 32) hX dX4_swapColumns_59 (by decide) ?_
            exact ih (j + 1) _ _ (by omega) (by omega) hM hW (fun x y x0 x1 y0 y1 => by
              rw [hA x y x0 x1 y0 y1, hA j r (by omega) (by omega) (by omega) (by omega), hA j c (by omega) (by omega) (by omega) (by omega)]
              (repeat' split) <;> first | rfl | omega | grind) (by omega)
      exact loop 8 0 h w22 (by omega) (by omega) hM hW (fun x y x0 x1 y0 y1 => by rw [if_neg (by omega)]) (by omega)
    · skip
      refine g_iconst (pc' := 18) hX dX4_swapColumns_17 rfl ?_
      refine g_goto (tgt := 22) hX dX4_swapColumns_18 (by decide) ?_
      refine gV1I0 (pc' := 25) hX dX4_swapColumns_22 ml_X4_118 gc_X4 hM.1.h0 hM.1.hk (c_m_wrong hM (by omega)) (Nat.le_of_ble_eq_true rfl) (by decide) rfl (fun r22 w22 q22 => ?_)
      obtain ⟨hM, hWA, hR, h4, hr22⟩ := q22
      have hI := hM.1
      have hW : Fr (zB mo) w22 w22 := Fr.rf
      have e0 : r22 = 1 := by omega
      subst e0
      clear hr22
      skip
      refine g_if_eq (pc' := 28) (tgt := 30) hX dX4_swapColumns_25 (by decide) rfl (by omega) (fun h25 => absurd h25 (by omega)) (fun h25 => ?_)
      refine g_iconst (pc' := 29) hX dX4_swapColumns_28 rfl ?_
      exact g_retI hX hF dX4_swapColumns_29 (mP.bad hWA h4 (by omega) (by omega) hM)

theorem c_mo_transpose (hM : MM E mo n m h sn sm sh e w)   : Call E mX4_transpose 1 0 0 [vR mo] w (qI (mP mo w (if m < n then 1 else 0) (n) (fun w' => MM E mo n m (fun x y => if x < n ∧ y < n then h y x else h x y) sn sm sh e.off w') (fun w' => MM E mo n m h sn sm sh e w'))) := by
  refine call_of (av := [(1, mo)]) (by decide +kernel) rfl (Nat.le_of_ble_eq_true rfl) ?_
  intro X hX hF hname
  show GG X 0 0 w 0 [(1, mo), (9, 0), (9, 0)] []
  have hb := hM.1.b
  have hsb := hM.2.1.2
  skip
  refine g_aload_n (pc' := 1) hX dX4_transpose_0 rfl rfl ?_
  refine g_aload_n (pc' := 2) hX dX4_transpose_1 rfl rfl ?_
  refine gf_X4_13 (pc' := 5) hX dX4_transpose_2 hM.1.h0 hM.1.hk rfl ?_
  rw [hM.1.vm]
  refine g_aload_n (pc' := 6) hX dX4_transpose_5 rfl rfl ?_
  refine gf_X4_7 (pc' := 9) hX dX4_transpose_6 hM.1.h0 hM.1.hk rfl ?_
  rw [hM.1.vn]
  refine g_icmp_ge (pc' := 12) (tgt := 16) hX dX4_transpose_9 (by decide) rfl (by omega) (by omega) (fun h9 => ?_) (fun h9 => ?_)
  · skip
    refine g_iconst (pc' := 17) hX dX4_transpose_16 rfl ?_
    refine gV1I0 (pc' := 20) hX dX4_transpose_17 ml_X4_118 gc_X4 hM.1.h0 hM.1.hk (c_m_wrong hM (by omega)) (Nat.le_of_ble_eq_true rfl) (by decide) rfl (fun r17 w17 q17 => ?_)
    obtain ⟨hM, hWA, hR, h4, hr17⟩ := q17
    have hI := hM.1
    have hW : Fr (zB mo) w17 w17 := Fr.rf
    have e0 : r17 = 0 := by omega
    subst e0
    clear hr17
    skip
    refine g_if_eq (pc' := 23) (tgt := 25) hX dX4_transpose_20 (by decide) rfl (by omega) (fun h20 => ?_) (fun h20 => absurd h20 (by omega))
    refine g_iconst (pc' := 26) hX dX4_transpose_25 rfl ?_
    refine g_istore_n_1 (pc' := 27) hX dX4_transpose_26 (by decide) rfl rfl ?_
    have loop : ∀ (f : Nat) (i : Int) (h1 : Int → Int → Int) (w1 : Wd) (xj : Nat × Int), 0 ≤ i → i ≤ n → MM E mo n m h1 sn sm sh e w1 → Fr (zB mo) w17 w1 → (∀ x y : Int, 0 ≤ x → x < 7 → 0 ≤ y → y < 7 → h1 x y = if (y < x ∧ (x < i ∨ (x = i ∧ y < 0))) ∨ (x < y ∧ (y < i ∨ (y = i ∧ x < 0))) then h y x else h x y) → (xj = (9, 0) ∨ xj.1 = 0) → n < i + f → GG X 0 0 w1 27 [(1, mo), (0, i), xj] [] := by
      intro f
      induction f with
      | zero => intro i h1 w1 xj h0 h7 hM hW hA hxj hf; exact absurd hf (by omega)
      | succ f ih =>
        intro i h1 w1 xj h0 h7 hM hW hA hxj hf
        refine g_iload_n (pc' := 28) hX dX4_transpose_27 rfl rfl ?_
        refine g_aload_n (pc' := 29) hX dX4_transpose_28 rfl rfl ?_
        refine gf_X4_7 (pc' := 32) hX dX4_transpose_29 hM.1.h0 hM.1.hk rfl ?_
        rw [hM.1.vn]
        refine g_icmp_ge (pc' := 35) (tgt := 70) hX dX4_transpose_32 (by decide) rfl (by omega) (by omega) (fun h32 => ?_) (fun h32 => ?_)
        · skip
          refine g_aload_n (pc' := 71) hX dX4_transpose_70 rfl rfl ?_
          refine g_iconst (pc' := 72) hX dX4_transpose_71 rfl ?_
          refine pf_X4_48 (pc' := 75) hX dX4_transpose_72 hM.1.hb hM.1.hk rfl ?_
          refine hM.stO hW (by unfold zB; omega) (fun hM hW => ?_)
          have hM := hM.cg (h' := fun x y => if x < n ∧ y < n then h y x else h x y) (fun x y x0 x1 y0 y1 => by rw [hA x y x0 x1 y0 y1]; (repeat' split) <;> first | rfl | omega | grind)
          refine g_aload_n (pc' := 76) hX dX4_transpose_75 rfl rfl ?_
          refine gf_X4_7 (pc' := 79) hX dX4_transpose_76 hM.1.h0 hM.1.hk rfl ?_
          first
            | rw [hM.1.vn]
            | (repeat rw [rd_up_ne (by omega)]); rw [hM.1.vn]
          exact g_retI hX hF dX4_transpose_79 (mP.okB hWA hW h4 (by omega) (hM) (rfl))
        · skip
          refine g_iconst (pc' := 36) hX dX4_transpose_35 rfl ?_
          refine g_istore_n_2 (pc' := 37) hX dX4_transpose_36 (by decide) rfl rfl ?_
          have loop2 : ∀ (g : Nat) (j : Int) (h2 : Int → Int → Int) (w2 : Wd), 0 ≤ j → j ≤ i → MM E mo n m h2 sn sm sh e w2 → Fr (zB mo) w17 w2 → (∀ x y : Int, 0 ≤ x → x < 7 → 0 ≤ y → y < 7 → h2 x y = if (y < x ∧ (x < i ∨ (x = i ∧ y < j))) ∨ (x < y ∧ (y < i ∨ (y = i ∧ x < j))) then h y x else h x y) → i < j + g → GG X 0 0 w2 37 [(1, mo), (0, i), (0, j)] [] := by
            intro g
            induction g with
            | zero => intro j h2 w2 _ _ _ _ _ hg; exact absurd hg (by omega)
            | succ g ih2 =>
              intro j h2 w2 j0 j1 hM hW hB hg
              refine g_iload_n (pc' := 38) hX dX4_transpose_37 rfl rfl ?_
              refine g_iload_n (pc' := 39) hX dX4_transpose_38 rfl rfl ?_
              refine g_icmp_ge (pc' := 42) (tgt := 64) hX dX4_transpose_39 (by decide) rfl (by omega) (by omega) (fun h39 => ?_) (fun h39 => ?_)
              · skip
                refine g_iinc_1 (pc' := 67) hX dX4_transpose_64 (by decide) rfl rfl ?_
                refine g_goto (tgt := 27) hX dX4_transpose_67 (by decide) ?_
                exact ih (i + 1) h2 w2 (0, j) (by omega) (by omega) hM hW (fun x y x0 x1 y0 y1 => by rw [hB x y x0 x1 y0 y1]; (repeat' split) <;> first | rfl | omega) (Or.inr rfl) (by omega)
              · skip
                refine g_aload_n (pc' := 43) hX dX4_transpose_42 rfl rfl ?_
                refine g_bipush (pc' := 45) hX dX4_transpose_43 rfl rfl ?_
                refine g_iload_n (pc' := 46) hX dX4_transpose_45 rfl rfl ?_
                refine g_imul (pc' := 47) hX dX4_transpose_46 rfl ?_
                refine g_iload_n (pc' := 48) hX dX4_transpose_47 rfl rfl ?_
                refine g_iadd (pc' := 49) hX dX4_transpose_48 rfl ?_
                refine g_bipush (pc' := 51) hX dX4_transpose_49 rfl rfl ?_
                refine g_iload_n (pc' := 52) hX dX4_transpose_51 rfl rfl ?_
                refine g_imul (pc' := 53) hX dX4_transpose_52 rfl ?_
                refine g_iload_n (pc' := 54) hX dX4_transpose_53 rfl rfl ?_
                refine g_iadd (pc' := 55) hX dX4_transpose_54 rfl ?_
                refine gV2U0 (pc' := 58) hX dX4_transpose_55 ml_X4_150 gc_X4 hM.1.h0 hM.1.hk (c_m_exchangeCells rfl rfl hM (by omega) (by omega) (by omega) (by omega)) (Nat.le_of_ble_eq_true rfl) (by decide) rfl (fun w55 q55 => ?_)
                obtain ⟨hM, hW2⟩ := q55
                have hW := hW.tr hW2
                refine g_iinc_2 (pc' := 61) hX dX4_transpose_58 (by decide) rfl rfl ?_
                refine g_goto (tgt := 37) hX dX4_transpose_61 (by decide) ?_
                exact ih2 (j + 1) _ _ (by omega) (by omega) hM hW (fun x y x0 x1 y0 y1 => by
                  rw [hB x y x0 x1 y0 y1, hB i j (by omega) (by omega) (by omega) (by omega), hB j i (by omega) (by omega) (by omega) (by omega), if_neg (show ¬ ((j < i ∧ (i < i ∨ (i = i ∧ j < j))) ∨ (i < j ∧ (j < i ∨ (j = i ∧ i < j)))) by omega), if_neg (show ¬ ((i < j ∧ (j < i ∨ (j = i ∧ i < j))) ∨ (j < i ∧ (i < i ∨ (i = i ∧ j < j)))) by omega)]
                  (repeat' split) <;> first | rfl | omega | grind) (by omega)
          exact loop2 8 0 h1 w1 (by omega) (by omega) hM hW hA (by omega)
    exact loop 8 0 h w17 (9, 0) (by omega) (by omega) hM hW (fun x y x0 x1 y0 y1 => by rw [if_neg (by omega)]) (Or.inl rfl) (by omega)
  · skip
    refine g_iconst (pc' := 13) hX dX4_transpose_12 rfl ?_
    refine g_goto (tgt := 17) hX dX4_transpose_13 (by decide) ?_
    refine gV1I0 (pc' := 20) hX dX4_transpose_17 ml_X4_118 gc_X4 hM.1.h0 hM.1.hk (c_m_wrong hM (by omega)) (Nat.le_of_ble_eq_true rfl) (by decide) rfl (fun r17 w17 q17 => ?_)
    obtain ⟨hM, hWA, hR, h4, hr17⟩ := q17
    have hI := hM.1
    have hW : Fr (zB mo) w17 w17 := Fr.rf
    have e0 : r17 = 1 := by omega
    subst e0
    clear hr17
    skip
    refine g_if_eq (pc' := 23) (tgt := 25) hX dX4_transpose_20 (by decide) rfl (by omega) (fun h20 => absurd h20 (by omega)) (fun h20 => ?_)
    refine g_iconst (pc' := 24) hX dX4_transpose_23 rfl ?_
    exact g_retI hX hF dX4_transpose_24 (mP.bad hWA h4 (by omega) (by omega) hM)

theorem c_m_save (hM : MM E mo n m h sn sm sh e w) : Call E mX4_save 3 0 0 [vR mo] w (qI (fun r w' => r = tS n m h ∧ MM E mo n m h n m h e w' ∧ Fr (zB mo) w w')) := by
  refine call_of (av := [(1, mo)]) (by decide +kernel) rfl (Nat.le_of_ble_eq_true rfl) ?_
  intro X hX hF hname
  show GG X 0 0 w 0 [(1, mo), (9, 0)] []
  have hb := hM.1.b
  have hsb := hM.2.1.2
  have hW : Fr (zB mo) w w := Fr.rf
  refine g_aload_n (pc' := 1) hX dX4_save_0 rfl rfl ?_
  refine g_aload_n (pc' := 2) hX dX4_save_1 rfl rfl ?_
  refine gf_X4_7 (pc' := 5) hX dX4_save_2 hM.1.h0 hM.1.hk rfl ?_
  rw [hM.1.vn]
  refine pf_X4_16 (pc' := 8) hX dX4_save_5 hM.1.hb hM.1.hk rfl ?_
  skip
  refine g_aload_n (pc' := 9) hX dX4_save_8 rfl rfl ?_
  refine g_aload_n (pc' := 10) hX dX4_save_9 rfl rfl ?_
  refine gf_X4_13 (pc' := 13) hX dX4_save_10 hM.1.h0 hM.1.hk rfl ?_
  first
    | rw [hM.1.vm]
    | (repeat rw [rd_up_ne (by omega)]); rw [hM.1.vm]
  refine pf_X4_19 (pc' := 16) hX dX4_save_13 hM.1.hb hM.1.hk rfl ?_
  have hM := hM.snm (x := n) (y := m) (by omega)
  have hW := (hW.up (a := mo) (i := 2) (x := n) (by unfold zB; omega)).up (a := mo) (i := 3) (x := m) (by unfold zB; omega)
  refine g_iconst (pc' := 17) hX dX4_save_16 rfl ?_
  refine g_istore_n_1 (pc' := 18) hX dX4_save_17 (by decide) rfl rfl ?_
  have loop : ∀ (f : Nat) (k : Int) (h1 : Int → Int → Int) (w1 : Wd), 0 ≤ k → k ≤ 49 → MM E mo n m h n m h1 e w1 → Fr (zB mo) w w1 → (∀ x y : Int, 0 ≤ x → x < 7 → 0 ≤ y → y < 7 → 7 * x + y < k → h1 x y = h x y) → 49 < k + f → GG X 0 0 w1 18 [(1, mo), (0, k)] [] := by
    intro f
    induction f with
    | zero => intro k h1 w1 h0 h7 hM hW hA hf; exact absurd hf (by omega)
    | succ f ih =>
      intro k h1 w1 h0 h7 hM hW hA hf
      have hb1 := fun hk : k < 49 => hM.hb (k / 7) (k % 7) (by omega) (by omega)
      refine g_iload_n (pc' := 19) hX dX4_save_18 rfl rfl ?_
      refine g_bipush (pc' := 21) hX dX4_save_19 rfl rfl ?_
      refine g_icmp_ge (pc' := 24) (tgt := 54) hX dX4_save_21 (by decide) rfl (by omega) (by omega) (fun h21 => ?_) (fun h21 => ?_)
      · skip
        refine g_aload_n (pc' := 55) hX dX4_save_54 rfl rfl ?_
        refine gV0E0 (pc' := 58) hX dX4_save_55 ml_X4_153 gc_X4 hM.1.h0 hM.1.hk (c_m_total hM) (Nat.le_of_ble_eq_true rfl) (by decide) rfl ?_
        exact g_retI hX hF dX4_save_58 ⟨rfl, hM.scg (fun x y x0 x1 y0 y1 => (hA x y x0 x1 y0 y1 (by omega)).symm), hW⟩
      · skip
        refine g_aload_n (pc' := 25) hX dX4_save_24 rfl rfl ?_
        refine gf_X4_26 (pc' := 28) hX dX4_save_25 hM.1.h0 hM.1.hk rfl ?_
        rw [hM.1.f 6 (by decide) (show moF 6 = 2 by decide)]
        refine g_iload_n (pc' := 29) hX dX4_save_28 rfl rfl ?_
        refine g_aload_n (pc' := 30) hX dX4_save_29 rfl rfl ?_
        refine gf_X4_22 (pc' := 33) hX dX4_save_30 hM.1.h0 hM.1.hk rfl ?_
        rw [hM.1.f 5 (by decide) (show moF 5 = 1 by decide)]
        refine g_iload_n (pc' := 34) hX dX4_save_33 rfl rfl ?_
        refine g_ialdL (pc' := 35) hX dX4_save_34 (by have := hM.1.h0; omega) (hM.1.k 1 (by decide) (show moK 1 = 50 by decide)) (hM.1.l 1 (by decide) (show moN 1 = 49 by decide)) (by omega) rfl ?_
        rw [show rdw w1 (mo + 1) k = hno (h (k / 7) (k % 7)) from by have := hM.2.2.1.v (k / 7) (k % 7) (by omega) (by omega); rw [show 7 * (k / 7) + k % 7 = k by omega] at this; exact this]
        have hn1 := hno_b (hb1 (by omega))
        refine g_iastL (pc' := 36) hX dX4_save_35 (by have := hM.1.hb; omega) (hM.1.k 2 (by decide) (show moK 2 = 50 by decide)) (hM.1.l 2 (by decide) (show moN 2 = 49 by decide)) (by omega) rfl ?_
        refine hM.stSN hW (by omega) (by unfold zB; omega) (fun hM hW => ?_)
        refine g_aload_n (pc' := 37) hX dX4_save_36 rfl rfl ?_
        refine gf_X4_33 (pc' := 40) hX dX4_save_37 hM.1.h0 hM.1.hk rfl ?_
        first
          | rw [hM.1.f 8 (by decide) (show moF 8 = 4 by decide)]
          | (repeat rw [rd_up_ne (by omega)]); rw [hM.1.f 8 (by decide) (show moF 8 = 4 by decide)]
        refine g_iload_n (pc' := 41) hX dX4_save_40 rfl rfl ?_
        refine g_aload_n (pc' := 42) hX dX4_save_41 rfl rfl ?_
        refine gf_X4_29 (pc' := 45) hX dX4_save_42 hM.1.h0 hM.1.hk rfl ?_
        first
          | rw [hM.1.f 7 (by decide) (show moF 7 = 3 by decide)]
          | (repeat rw [rd_up_ne (by omega)]); rw [hM.1.f 7 (by decide) (show moF 7 = 3 by decide)]
        refine g_iload_n (pc' := 46) hX dX4_save_45 rfl rfl ?_
        refine g_zaldL (pc' := 47) hX dX4_save_46 (by have := hM.1.h0; omega) (hM.1.k 3 (by decide) (show moK 3 = 51 by decide)) (hM.1.l 3 (by decide) (show moN 3 = 49 by decide)) (by omega) rfl ?_
        rw [show rdw (upw w1 (mo + 2) k (hno (h (k / 7) (k % 7)))) (mo + 3) k = hfg (h (k / 7) (k % 7)) from by have := hM.2.2.1.g (k / 7) (k % 7) (by omega) (by omega); rw [show 7 * (k / 7) + k % 7 = k by omega] at this; exact this]
        have hf1 := hfg_b (v := h (k / 7) (k % 7))
        refine g_zastL (pc' := 48) hX dX4_save_47 (by have := hM.1.hb; omega) (hM.1.k 4 (by decide) (show moK 4 = 51 by decide)) (hM.1.l 4 (by decide) (show moN 4 = 49 by decide)) (by omega) hf1 rfl ?_
        refine hM.stSF hW hf1 (by unfold zB; omega) (fun hM hW => ?_)
        refine g_iinc_1 (pc' := 51) hX dX4_save_48 (by decide) rfl rfl ?_
        refine g_goto (tgt := 18) hX dX4_save_51 (by decide) ?_
        exact ih (k + 1) _ _ (by omega) (by omega) hM hW (fun x y x0 x1 y0 y1 hxy => by
          by_cases he : 7 * x + y = k
          · simp only [if_pos he]
            rw [hno_hd (by omega), show k / 7 = x by omega, show k % 7 = y by omega, hhd_id]
          · simp only [if_neg he]; exact hA x y x0 x1 y0 y1 (by omega)) (by omega)
  exact loop 50 0 sh _ (by omega) (by omega) hM hW (fun x y x0 x1 y0 y1 hxy => absurd hxy (by omega)) (by omega)

theorem c_m_restore (hM : MM E mo n m h sn sm sh e w) : Call E mX4_restore 0 0 0 [vR mo] w (qI (fun r w' => r = sn ∧ MM E mo sn sm sh sn sm sh e.off w' ∧ Fr (zB mo) w w')) := by
  refine call_of (av := [(1, mo)]) (by decide +kernel) rfl (Nat.le_of_ble_eq_true rfl) ?_
  intro X hX hF hname
  show GG X 0 0 w 0 [(1, mo), (9, 0)] []
  have hb := hM.1.b
  have hsb := hM.2.1.2
  have hW : Fr (zB mo) w w := Fr.rf
  refine g_aload_n (pc' := 1) hX dX4_restore_0 rfl rfl ?_
  refine g_aload_n (pc' := 2) hX dX4_restore_1 rfl rfl ?_
  refine gf_X4_16 (pc' := 5) hX dX4_restore_2 hM.1.h0 hM.1.hk rfl ?_
  rw [hM.2.1.1.1]
  refine pf_X4_7 (pc' := 8) hX dX4_restore_5 hM.1.hb hM.1.hk rfl ?_
  skip
  refine g_aload_n (pc' := 9) hX dX4_restore_8 rfl rfl ?_
  refine g_aload_n (pc' := 10) hX dX4_restore_9 rfl rfl ?_
  refine gf_X4_19 (pc' := 13) hX dX4_restore_10 hM.1.h0 hM.1.hk rfl ?_
  first
    | rw [hM.2.1.1.2]
    | (repeat rw [rd_up_ne (by omega)]); rw [hM.2.1.1.2]
  refine pf_X4_13 (pc' := 16) hX dX4_restore_13 hM.1.hb hM.1.hk rfl ?_
  have hM := hM.nm (x := sn) (y := sm) (by omega)
  have hW := (hW.up (a := mo) (i := 0) (x := sn) (by unfold zB; omega)).up (a := mo) (i := 1) (x := sm) (by unfold zB; omega)
  refine g_iconst (pc' := 17) hX dX4_restore_16 rfl ?_
  refine g_istore_n_1 (pc' := 18) hX dX4_restore_17 (by decide) rfl rfl ?_
  have loop : ∀ (f : Nat) (k : Int) (h1 : Int → Int → Int) (w1 : Wd), 0 ≤ k → k ≤ 49 → MM E mo sn sm h1 sn sm sh e w1 → Fr (zB mo) w w1 → (∀ x y : Int, 0 ≤ x → x < 7 → 0 ≤ y → y < 7 → 7 * x + y < k → h1 x y = sh x y) → 49 < k + f → GG X 0 0 w1 18 [(1, mo), (0, k)] [] := by
    intro f
    induction f with
    | zero => intro k h1 w1 h0 h7 hM hW hA hf; exact absurd hf (by omega)
    | succ f ih =>
      intro k h1 w1 h0 h7 hM hW hA hf
      have hb1 := fun hk : k < 49 => hM.shb (k / 7) (k % 7) (by omega) (by omega)
      refine g_iload_n (pc' := 19) hX dX4_restore_18 rfl rfl ?_
      refine g_bipush (pc' := 21) hX dX4_restore_19 rfl rfl ?_
      refine g_icmp_ge (pc' := 24) (tgt := 54) hX dX4_restore_21 (by decide) rfl (by omega) (by omega) (fun h21 => ?_) (fun h21 => ?_)
      · skip
        refine g_aload_n (pc' := 55) hX dX4_restore_54 rfl rfl ?_
        refine g_iconst (pc' := 56) hX dX4_restore_55 rfl ?_
        refine pf_X4_48 (pc' := 59) hX dX4_restore_56 hM.1.hb hM.1.hk rfl ?_
        refine hM.stO hW (by unfold zB; omega) (fun hM hW => ?_)
        refine g_aload_n (pc' := 60) hX dX4_restore_59 rfl rfl ?_
        refine gf_X4_7 (pc' := 63) hX dX4_restore_60 hM.1.h0 hM.1.hk rfl ?_
        first
          | rw [hM.1.vn]
          | (repeat rw [rd_up_ne (by omega)]); rw [hM.1.vn]
        exact g_retI hX hF dX4_restore_63 ⟨rfl, hM.cg (fun x y x0 x1 y0 y1 => (hA x y x0 x1 y0 y1 (by omega)).symm), hW⟩
      · skip
        refine g_aload_n (pc' := 25) hX dX4_restore_24 rfl rfl ?_
        refine gf_X4_22 (pc' := 28) hX dX4_restore_25 hM.1.h0 hM.1.hk rfl ?_
        rw [hM.1.f 5 (by decide) (show moF 5 = 1 by decide)]
        refine g_iload_n (pc' := 29) hX dX4_restore_28 rfl rfl ?_
        refine g_aload_n (pc' := 30) hX dX4_restore_29 rfl rfl ?_
        refine gf_X4_26 (pc' := 33) hX dX4_restore_30 hM.1.h0 hM.1.hk rfl ?_
        rw [hM.1.f 6 (by decide) (show moF 6 = 2 by decide)]
        refine g_iload_n (pc' := 34) hX dX4_restore_33 rfl rfl ?_
        refine g_ialdL (pc' := 35) hX dX4_restore_34 (by have := hM.1.h0; omega) (hM.1.k 2 (by decide) (show moK 2 = 50 by decide)) (hM.1.l 2 (by decide) (show moN 2 = 49 by decide)) (by omega) rfl ?_
        rw [show rdw w1 (mo + 2) k = hno (sh (k / 7) (k % 7)) from by have := hM.2.2.2.1.v (k / 7) (k % 7) (by omega) (by omega); rw [show 7 * (k / 7) + k % 7 = k by omega] at this; exact this]
        have hn1 := hno_b (hb1 (by omega))
        refine g_iastL (pc' := 36) hX dX4_restore_35 (by have := hM.1.hb; omega) (hM.1.k 1 (by decide) (show moK 1 = 50 by decide)) (hM.1.l 1 (by decide) (show moN 1 = 49 by decide)) (by omega) rfl ?_
        refine hM.stN hW (by omega) (by unfold zB; omega) (fun hM hW => ?_)
        refine g_aload_n (pc' := 37) hX dX4_restore_36 rfl rfl ?_
        refine gf_X4_29 (pc' := 40) hX dX4_restore_37 hM.1.h0 hM.1.hk rfl ?_
        first
          | rw [hM.1.f 7 (by decide) (show moF 7 = 3 by decide)]
          | (repeat rw [rd_up_ne (by omega)]); rw [hM.1.f 7 (by decide) (show moF 7 = 3 by decide)]
        refine g_iload_n (pc' := 41) hX dX4_restore_40 rfl rfl ?_
        refine g_aload_n (pc' := 42) hX dX4_restore_41 rfl rfl ?_
        refine gf_X4_33 (pc' := 45) hX dX4_restore_42 hM.1.h0 hM.1.hk rfl ?_
        first
          | rw [hM.1.f 8 (by decide) (show moF 8 = 4 by decide)]
          | (repeat rw [rd_up_ne (by omega)]); rw [hM.1.f 8 (by decide) (show moF 8 = 4 by decide)]
        refine g_iload_n (pc' := 46) hX dX4_restore_45 rfl rfl ?_
        refine g_zaldL (pc' := 47) hX dX4_restore_46 (by have := hM.1.h0; omega) (hM.1.k 4 (by decide) (show moK 4 = 51 by decide)) (hM.1.l 4 (by decide) (show moN 4 = 49 by decide)) (by omega) rfl ?_
        rw [show rdw (upw w1 (mo + 1) k (hno (sh (k / 7) (k % 7)))) (mo + 4) k = hfg (sh (k / 7) (k % 7)) from by have := hM.2.2.2.1.g (k / 7) (k % 7) (by omega) (by omega); rw [show 7 * (k / 7) + k % 7 = k by omega] at this; exact this]
        have hf1 := hfg_b (v := sh (k / 7) (k % 7))
        refine g_zastL (pc' := 48) hX dX4_restore_47 (by have := hM.1.hb; omega) (hM.1.k 3 (by decide) (show moK 3 = 51 by decide)) (hM.1.l 3 (by decide) (show moN 3 = 49 by decide)) (by omega) hf1 rfl ?_
        refine hM.stF hW hf1 (by unfold zB; omega) (fun hM hW => ?_)
        refine g_iinc_1 (pc' := 51) hX dX4_restore_48 (by decide) rfl rfl ?_
        refine g_goto (tgt := 18) hX dX4_restore_51 (by decide) ?_
        exact ih (k + 1) _ _ (by omega) (by omega) hM hW (fun x y x0 x1 y0 y1 hxy => by
          by_cases he : 7 * x + y = k
          · simp only [if_pos he]
            rw [hno_hd (by omega), show k / 7 = x by omega, show k % 7 = y by omega, hhd_id]
          · simp only [if_neg he]; exact hA x y x0 x1 y0 y1 (by omega)) (by omega)
  exact loop 50 0 h _ (by omega) (by omega) hM hW (fun x y x0 x1 y0 y1 hxy => absurd hxy (by omega)) (by omega)

end M7
