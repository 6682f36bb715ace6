/-! MODEL: small methods (by gen/spec_m1.py) -/
set_option maxRecDepth 100000
section M1
variable {E : Ev} {mo n m : Int} {w : Wd}
theorem c_m_isIn {v lo hi : Int} (hv : -9223372036854775808 ≤ v ∧ v ≤ 9223372036854775807) (hl : -9223372036854775808 ≤ lo ∧ lo ≤ 9223372036854775807) (hh : -9223372036854775808 ≤ hi ∧ hi ≤ 9223372036854775807) : Call E mX4_isIn 0 0 0 [vL v, vL lo, vL hi] w (qE (if lo ≤ v ∧ v ≤ hi then 1 else 0) w) := by
  refine call_of (av := [(2, v), (2, lo), (2, hi)]) (by decide +kernel) rfl (Nat.le_of_ble_eq_true rfl) ?_
  intro X hX hF hname
  show GG X 0 0 w 0 [(2, v), (9, 0), (2, lo), (9, 0), (2, hi), (9, 0)] []
  have hF0 := hF
  refine g_lload_n (pc' := 1) hX dX4_isIn_0 rfl rfl ?_
  refine g_lload_n (pc' := 2) hX dX4_isIn_1 rfl rfl ?_
  refine g_lcmp (pc' := 3) hX dX4_isIn_2 (by omega) (by omega) rfl ?_
  refine g_if_lt (pc' := 6) (tgt := 17) hX dX4_isIn_3 (by decide) rfl lcmp_rng (fun h3 => ?_) (fun h3 => ?_)
  · skip
    rw [lcmp_lt0] at h3
    rw [if_neg (by omega)] at hF0
    refine g_iconst (pc' := 18) hX dX4_isIn_17 rfl ?_
    exact g_retEZ hX hF0 dX4_isIn_18 (by omega) (by omega) rfl
  · skip
    rw [lcmp_lt0] at h3
    refine g_lload_n (pc' := 7) hX dX4_isIn_6 rfl rfl ?_
    refine g_lload (pc' := 9) hX dX4_isIn_7 rfl rfl ?_
    refine g_lcmp (pc' := 10) hX dX4_isIn_9 (by omega) (by omega) rfl ?_
    refine g_if_gt (pc' := 13) (tgt := 17) hX dX4_isIn_10 (by decide) rfl lcmp_rng (fun h10 => ?_) (fun h10 => ?_)
    · skip
      rw [lcmp_gt0] at h10
      rw [if_neg (by omega)] at hF0
      refine g_iconst (pc' := 18) hX dX4_isIn_17 rfl ?_
      exact g_retEZ hX hF0 dX4_isIn_18 (by omega) (by omega) rfl
    · skip
      rw [lcmp_gt0] at h10
      rw [if_pos (by omega)] at hF0
      refine g_iconst (pc' := 14) hX dX4_isIn_13 rfl ?_
      refine g_goto (tgt := 18) hX dX4_isIn_14 (by decide) ?_
      exact g_retEZ hX hF0 dX4_isIn_18 (by omega) (by omega) rfl

theorem c_m_isRow {row : Int} (hI : MI E mo n m w) (hr : -2147483648 ≤ row ∧ row ≤ 2147483647) : Call E mX4_isRow 1 0 0 [vR mo, vI row] w (qE (if 0 ≤ row ∧ row ≤ n - 1 then 1 else 0) w) := by
  refine call_of (av := [(1, mo), (0, row)]) (by decide +kernel) rfl (Nat.le_of_ble_eq_true rfl) ?_
  intro X hX hF hname
  show GG X 0 0 w 0 [(1, mo), (0, row)] []
  have hb := hI.b
  have hF0 := hF
  refine g_iload_n (pc' := 1) hX dX4_isRow_0 rfl rfl ?_
  refine g_i2l (pc' := 2) hX dX4_isRow_1 (by omega) rfl ?_
  refine g_lconst (pc' := 3) (v := 0) hX dX4_isRow_2 rfl rfl ?_
  refine g_aload_n (pc' := 4) hX dX4_isRow_3 rfl rfl ?_
  refine gf_X4_7 (pc' := 7) hX dX4_isRow_4 hI.h0 hI.hk rfl ?_
  rw [hI.vn]
  refine g_iconst (pc' := 8) hX dX4_isRow_7 rfl ?_
  refine g_isub (pc' := 9) hX dX4_isRow_8 rfl ?_
  refine g_i2l (pc' := 10) hX dX4_isRow_9 (by omega) rfl ?_
  refine gS3E0 (pc' := 13) hX dX4_isRow_10 ml_X4_63 (c_m_isIn (by omega) (by omega) (by omega)) (Nat.le_of_ble_eq_true rfl) (by decide) rfl ?_
  exact g_retEZ hX hF0 dX4_isRow_13 (by split <;> simp) rfl rfl

theorem c_m_isReal {row : Int} (hI : MI E mo n m w) (hr : -2147483648 ≤ row ∧ row ≤ 2147483647) : Call E mX4_isReal 1 0 0 [vR mo, vI row] w (qE (if 0 ≤ row ∧ row ≤ m - 1 then 1 else 0) w) := by
  refine call_of (av := [(1, mo), (0, row)]) (by decide +kernel) rfl (Nat.le_of_ble_eq_true rfl) ?_
  intro X hX hF hname
  show GG X 0 0 w 0 [(1, mo), (0, row)] []
  have hb := hI.b
  have hF0 := hF
  refine g_iload_n (pc' := 1) hX dX4_isReal_0 rfl rfl ?_
  refine g_i2l (pc' := 2) hX dX4_isReal_1 (by omega) rfl ?_
  refine g_lconst (pc' := 3) (v := 0) hX dX4_isReal_2 rfl rfl ?_
  refine g_aload_n (pc' := 4) hX dX4_isReal_3 rfl rfl ?_
  refine gf_X4_13 (pc' := 7) hX dX4_isReal_4 hI.h0 hI.hk rfl ?_
  rw [hI.vm]
  refine g_iconst (pc' := 8) hX dX4_isReal_7 rfl ?_
  refine g_isub (pc' := 9) hX dX4_isReal_8 rfl ?_
  refine g_i2l (pc' := 10) hX dX4_isReal_9 (by omega) rfl ?_
  refine gS3E0 (pc' := 13) hX dX4_isReal_10 ml_X4_63 (c_m_isIn (by omega) (by omega) (by omega)) (Nat.le_of_ble_eq_true rfl) (by decide) rfl ?_
  exact g_retEZ hX hF0 dX4_isReal_13 (by split <;> simp) rfl rfl

theorem c_m_isWrong {c : Int} (hI : MI E mo n m w) (hc : -2147483648 ≤ c ∧ c ≤ 2147483647) : Call E mX4_isWrong 0 0 0 [vR mo, vI c] w (qE (if c = 0 then 0 else 1) (upw w mo 4 c)) := by
  refine call_of (av := [(1, mo), (0, c)]) (by decide +kernel) rfl (Nat.le_of_ble_eq_true rfl) ?_
  intro X hX hF hname
  show GG X 0 0 w 0 [(1, mo), (0, c)] []
  have hF0 := hF
  refine g_aload_n (pc' := 1) hX dX4_isWrong_0 rfl rfl ?_
  refine g_iload_n (pc' := 2) hX dX4_isWrong_1 rfl rfl ?_
  refine pf_X4_60 (pc' := 5) hX dX4_isWrong_2 hI.hb hI.hk rfl ?_
  skip
  refine g_iload_n (pc' := 6) hX dX4_isWrong_5 rfl rfl ?_
  refine g_if_eq (pc' := 9) (tgt := 13) hX dX4_isWrong_6 (by decide) rfl (by omega) (fun h6 => ?_) (fun h6 => ?_)
  · skip
    rw [if_pos (by omega)] at hF0
    refine g_iconst (pc' := 14) hX dX4_isWrong_13 rfl ?_
    exact g_retEZ hX hF0 dX4_isWrong_14 (by omega) (by omega) rfl
  · skip
    rw [if_neg (by omega)] at hF0
    refine g_iconst (pc' := 10) hX dX4_isWrong_9 rfl ?_
    refine g_goto (tgt := 14) hX dX4_isWrong_10 (by decide) ?_
    exact g_retEZ hX hF0 dX4_isWrong_14 (by omega) (by omega) rfl

theorem c_m_thrown (hI : MI E mo n m w) : Call E mX4_thrown 0 0 0 [vR mo] w (qE (rdw w mo 4) w) := by
  refine call_of (av := [(1, mo)]) (by decide +kernel) rfl (Nat.le_of_ble_eq_true rfl) ?_
  intro X hX hF hname
  show GG X 0 0 w 0 [(1, mo)] []
  refine g_aload_n (pc' := 1) hX dX4_thrown_0 rfl rfl ?_
  refine gf_X4_60 (pc' := 4) hX dX4_thrown_1 hI.h0 hI.hk rfl ?_
  exact g_retE hX hF dX4_thrown_4 rfl rfl

theorem c_m_cost {i j : Int} (hI : MI E mo n m w) (hi : 0 ≤ i ∧ i < 7) (hj : 0 ≤ j ∧ j < 7) (hT : ∀ k : Int, 0 ≤ k → k < 49 → rdw w (mo + 3) k = 0 ∨ rdw w (mo + 3) k = 1) : Call E mX4_cost 0 0 0 [vR mo, vI i, vI j] w (qE (mcost w mo i j) w) := by
  refine call_of (av := [(1, mo), (0, i), (0, j)]) (by decide +kernel) rfl (Nat.le_of_ble_eq_true rfl) ?_
  intro X hX hF hname
  show GG X 0 0 w 0 [(1, mo), (0, i), (0, j)] []
  have hF0 := hF
  have hb := hI.b
  unfold mcost at hF0
  rw [hI.vm] at hF0
  have hT1 := hT (7 * i + j) (by omega) (by omega)
  refine g_iload_n (pc' := 1) hX dX4_cost_0 rfl rfl ?_
  refine g_aload_n (pc' := 2) hX dX4_cost_1 rfl rfl ?_
  refine gf_X4_13 (pc' := 5) hX dX4_cost_2 hI.h0 hI.hk rfl ?_
  rw [hI.vm]
  refine g_icmp_lt (pc' := 8) (tgt := 12) hX dX4_cost_5 (by decide) rfl (by omega) (by omega) (fun h5 => ?_) (fun h5 => ?_)
  · skip
    rw [if_neg (by omega)] at hF0
    refine g_aload_n (pc' := 13) hX dX4_cost_12 rfl rfl ?_
    refine gf_X4_29 (pc' := 16) hX dX4_cost_13 hI.h0 hI.hk rfl ?_
    rw [hI.f 7 (by decide) (show moF 7 = 3 by decide)]
    refine g_bipush (pc' := 18) hX dX4_cost_16 rfl rfl ?_
    refine g_iload_n (pc' := 19) hX dX4_cost_18 rfl rfl ?_
    refine g_imul (pc' := 20) hX dX4_cost_19 rfl ?_
    refine g_iload_n (pc' := 21) hX dX4_cost_20 rfl rfl ?_
    refine g_iadd (pc' := 22) hX dX4_cost_21 rfl ?_
    refine g_zaldL (pc' := 23) hX dX4_cost_22 (by have := hI.h0; omega) (hI.k 3 (by decide) (show moK 3 = 51 by decide)) (hI.l 3 (by decide) (show moN 3 = 49 by decide)) (by omega) rfl ?_
    refine g_if_eq (pc' := 26) (tgt := 32) hX dX4_cost_23 (by decide) rfl (by omega) (fun h23 => ?_) (fun h23 => ?_)
    · skip
      rw [if_pos (by omega)] at hF0
      refine g_aload_n (pc' := 33) hX dX4_cost_32 rfl rfl ?_
      refine gf_X4_22 (pc' := 36) hX dX4_cost_33 hI.h0 hI.hk rfl ?_
      rw [hI.f 5 (by decide) (show moF 5 = 1 by decide)]
      refine g_bipush (pc' := 38) hX dX4_cost_36 rfl rfl ?_
      refine g_iload_n (pc' := 39) hX dX4_cost_38 rfl rfl ?_
      refine g_imul (pc' := 40) hX dX4_cost_39 rfl ?_
      refine g_iload_n (pc' := 41) hX dX4_cost_40 rfl rfl ?_
      refine g_iadd (pc' := 42) hX dX4_cost_41 rfl ?_
      refine g_ialdL (pc' := 43) hX dX4_cost_42 (by have := hI.h0; omega) (hI.k 1 (by decide) (show moK 1 = 50 by decide)) (hI.l 1 (by decide) (show moN 1 = 49 by decide)) (by omega) rfl ?_
      exact g_retE hX hF0 dX4_cost_43 rfl rfl
    · skip
      rw [if_neg (by omega)] at hF0
      refine g_sipush (pc' := 29) hX dX4_cost_26 rfl rfl ?_
      refine g_goto (tgt := 43) hX dX4_cost_29 (by decide) ?_
      exact g_retE hX hF0 dX4_cost_43 rfl rfl
  · skip
    rw [if_pos (by omega)] at hF0
    refine g_iconst (pc' := 9) hX dX4_cost_8 rfl ?_
    refine g_goto (tgt := 43) hX dX4_cost_9 (by decide) ?_
    exact g_retE hX hF0 dX4_cost_43 rfl rfl

end M1
