/-! MODEL: mean and share (by gen/spec_m14.py) -/
set_option maxRecDepth 100000
set_option maxHeartbeats 4000000
def mnC (n m : Int) (h : Int → Int → Int) : UInt64 := FP.ddiv (FP.i2d (Int32.ofInt (tS n m h))) (FP.i2d (Int32.ofInt (n * n)))
def shC (n m : Int) (h : Int → Int → Int) (r : Int) : UInt32 := if (LK n m h).1 = 0 then 0 else FP.fdiv (FP.i2f (Int32.ofInt (tC m h r (((LK n m h).2.2.2.2.2.getD r.toNat 0 : Nat) : Int)))) (FP.i2f (Int32.ofInt (LK n m h).1))
section M14
variable {E : Ev} {mo n m sn sm : Int} {h sh : Int → Int → Int} {e : En} {w : Wd}
theorem nn_mean (hM : MM E mo n m h sn sm sh e w) : vf_n64 (mnC n m h) := by
  have hb := hM.1.b
  have h1 := hM.tSb
  have h2 : n * n ≠ 0 := by
    intro z
    rcases Int.mul_eq_zero.mp z with z | z <;> omega
  have h3 : 0 ≤ n * n := Int.mul_nonneg (by omega) (by omega)
  have h4 : n * n ≤ 7 * 7 := Int.mul_le_mul (by omega) (by omega) (by omega) (by omega)
  exact nn_ddiv (by omega) (by omega) h2
theorem nn_share (hM : MM E mo n m h sn sm sh e w) {r : Int} (hr : 0 ≤ r ∧ r < n) : vf_n32 (shC n m h r) := by
  have hb := hM.1.b
  unfold shC
  split
  · exact nn_f0
  · have h1 := hM.kb.1
    have h2 := hM.fb7 r.toNat (by omega)
    have h3 := hM.cB r (((LK n m h).2.2.2.2.2.getD r.toNat 0 : Nat) : Int) hr.1 hr.2 (by omega) (by omega)
    exact nn_fdiv (by omega) (by omega) (by assumption)
theorem c_m_meanCost (hM : MM E mo n m h sn sm sh e w) : Call E mX4_meanCost 3 0 0 [vR mo] w (qG (fun r w' => r = .double (mnC n m h) ∧ w' = w)) := by
  refine call_of (av := [(1, mo)]) (by decide +kernel) rfl (Nat.le_of_ble_eq_true rfl) ?_
  intro X hX hF hname
  show GG X 0 0 w 0 [(1, mo)] []
  have hb := hM.1.b
  have hsb := hM.2.1.2
  skip
  refine g_aload_n (pc' := 1) hX dX4_meanCost_0 rfl rfl ?_
  refine gV0E0 (pc' := 4) hX dX4_meanCost_1 ml_X4_153 gc_X4 hM.1.h0 hM.1.hk (c_m_total hM) (Nat.le_of_ble_eq_true rfl) (by decide) rfl ?_
  refine g_i2d (pc' := 5) hX dX4_meanCost_4 rfl ?_
  refine g_aload_n (pc' := 6) hX dX4_meanCost_5 rfl rfl ?_
  refine gf_X4_7 (pc' := 9) hX dX4_meanCost_6 hM.1.h0 hM.1.hk rfl ?_
  rw [hM.1.vn]
  refine g_aload_n (pc' := 10) hX dX4_meanCost_9 rfl rfl ?_
  refine gf_X4_7 (pc' := 13) hX dX4_meanCost_10 hM.1.h0 hM.1.hk rfl ?_
  rw [hM.1.vn]
  refine g_imul (pc' := 14) hX dX4_meanCost_13 rfl ?_
  refine g_i2d (pc' := 15) hX dX4_meanCost_14 rfl ?_
  refine g_ddiv (pc' := 16) hX dX4_meanCost_15 (nn_mean hM) rfl ?_
  exact g_retD hX hF dX4_meanCost_16 ⟨rfl, rfl⟩

theorem c_m_shareOf {r0 : Int} (hM : MM E mo n m h sn sm sh e w) (br : -2147483648 ≤ r0 ∧ r0 ≤ 2147483647) : Call E mX4_shareOf 11 0 0 [vR mo, vI r0] w (qG (fun r w' => Fr (zM mo) w w' ∧ MM E mo n m h sn sm sh e w' ∧ rdw w' mo 4 = (if 0 ≤ r0 ∧ r0 ≤ n - 1 then 0 else 1) ∧ ∃ x, r = .float x ∧ vf_n32 x ∧ ((0 ≤ r0 ∧ r0 ≤ n - 1) → x = shC n m h r0))) := by
  refine call_of (av := [(1, mo), (0, r0)]) (by decide +kernel) rfl (Nat.le_of_ble_eq_true rfl) ?_
  intro X hX hF hname
  show GG X 0 0 w 0 [(1, mo), (0, r0)] []
  have hb := hM.1.b
  have hsb := hM.2.1.2
  have hW : Fr (zB mo) w w := Fr.rf
  refine g_aload_n (pc' := 1) hX dX4_shareOf_0 rfl rfl ?_
  refine g_aload_n (pc' := 2) hX dX4_shareOf_1 rfl rfl ?_
  refine g_iload_n (pc' := 3) hX dX4_shareOf_2 rfl rfl ?_
  refine gV1E0 (pc' := 6) hX dX4_shareOf_3 ml_X4_122 gc_X4 hM.1.h0 hM.1.hk (c_m_isRow hM.1 (by omega)) (Nat.le_of_ble_eq_true rfl) (by decide) rfl ?_
  refine g_if_eq (pc' := 9) (tgt := 13) hX dX4_shareOf_6 (by decide) rfl (by omega) (fun h6 => ?_) (fun h6 => ?_)
  · skip
    refine g_iconst (pc' := 14) hX dX4_shareOf_13 rfl ?_
    refine gV1I0 (pc' := 17) hX dX4_shareOf_14 ml_X4_118 gc_X4 hM.1.h0 hM.1.hk (c_m_wrong hM (by omega)) (Nat.le_of_ble_eq_true rfl) (by decide) rfl (fun r14 w14 q14 => ?_)
    obtain ⟨hM, hWA, hR, h4, hr14⟩ := q14
    have hI := hM.1
    have hW : Fr (zB mo) w14 w14 := Fr.rf
    have e0 : r14 = 1 := by omega
    subst e0
    clear hr14
    skip
    refine g_if_eq (pc' := 20) (tgt := 22) hX dX4_shareOf_17 (by decide) rfl (by omega) (fun h17 => absurd h17 (by omega)) (fun h17 => ?_)
    refine g_fconst0 (pc' := 21) hX dX4_shareOf_20 rfl ?_
    exact g_retF hX hF dX4_shareOf_21 ⟨hWA, hM, by rw [if_neg (by omega)]; exact h4, 0, rfl, nn_f0, fun z => absurd z (by omega)⟩
  · skip
    refine g_iconst (pc' := 10) hX dX4_shareOf_9 rfl ?_
    refine g_goto (tgt := 14) hX dX4_shareOf_10 (by decide) ?_
    refine gV1I0 (pc' := 17) hX dX4_shareOf_14 ml_X4_118 gc_X4 hM.1.h0 hM.1.hk (c_m_wrong hM (by omega)) (Nat.le_of_ble_eq_true rfl) (by decide) rfl (fun r14 w14 q14 => ?_)
    obtain ⟨hM, hWA, hR, h4, hr14⟩ := q14
    have hI := hM.1
    have hW : Fr (zB mo) w14 w14 := Fr.rf
    have e0 : r14 = 0 := by omega
    subst e0
    clear hr14
    skip
    refine g_if_eq (pc' := 20) (tgt := 22) hX dX4_shareOf_17 (by decide) rfl (by omega) (fun h17 => ?_) (fun h17 => absurd h17 (by omega))
    refine g_aload_n (pc' := 23) hX dX4_shareOf_22 rfl rfl ?_
    refine gV0U0 (pc' := 26) hX dX4_shareOf_23 ml_X4_114 gc_X4 hM.1.h0 hM.1.hk (c_m_lookM hM) (Nat.le_of_ble_eq_true rfl) (by decide) rfl (fun w23 q23 => ?_)
    obtain ⟨hM, hW1, hC, hS⟩ := q23
    have hW := hW.tr (hW1.wk (fun a i z => show zB mo a i by unfold zL at z; unfold zB; omega))
    refine g_aload_n (pc' := 27) hX dX4_shareOf_26 rfl rfl ?_
    refine gf_X4_80 (pc' := 30) hX dX4_shareOf_27 hM.1.h0 hM.1.hk rfl ?_
    rw [hS.1.1]
    have hkb := hM.kb.1
    have hfl := hM.fl
    refine g_if_ne (pc' := 33) (tgt := 37) hX dX4_shareOf_30 (by decide) rfl (by omega) (fun h30 => ?_) (fun h30 => ?_)
    · skip
      refine g_aload_n (pc' := 38) hX dX4_shareOf_37 rfl rfl ?_
      refine gf_X4_36 (pc' := 41) hX dX4_shareOf_38 hM.1.h0 hM.1.hk rfl ?_
      rw [hM.1.f 9 (by decide) (show moF 9 = 5 by decide)]
      refine g_bipush (pc' := 43) hX dX4_shareOf_41 rfl rfl ?_
      refine g_iload_n (pc' := 44) hX dX4_shareOf_43 rfl rfl ?_
      refine g_imul (pc' := 45) hX dX4_shareOf_44 rfl ?_
      refine g_aload_n (pc' := 46) hX dX4_shareOf_45 rfl rfl ?_
      refine gf_X4_45 (pc' := 49) hX dX4_shareOf_46 hM.1.h0 hM.1.hk rfl ?_
      rw [hM.1.f 12 (by decide) (show moF 12 = 8 by decide)]
      refine g_iload_n (pc' := 50) hX dX4_shareOf_49 rfl rfl ?_
      refine g_ialdL (pc' := 51) hX dX4_shareOf_50 (by have := hM.1.h0; omega) (hM.1.k 8 (by decide) (show moK 8 = 50 by decide)) (hM.1.l 8 (by decide) (show moN 8 = 7 by decide)) (by omega) rfl ?_
      rw [hS.2.1 r0 (by omega) (by omega)]
      have hf7 := hM.fb7 r0.toNat (by omega)
      refine g_iadd (pc' := 52) hX dX4_shareOf_51 rfl ?_
      refine g_ialdL (pc' := 53) hX dX4_shareOf_52 (by have := hM.1.h0; omega) (hM.1.k 5 (by decide) (show moK 5 = 50 by decide)) (hM.1.l 5 (by decide) (show moN 5 = 49 by decide)) (by omega) rfl ?_
      rw [show rdw w23 (mo + 5) (7 * r0 + (((LK n m h).2.2.2.2.2.getD r0.toNat 0 : Nat) : Int)) = tC m h r0 (((LK n m h).2.2.2.2.2.getD r0.toNat 0 : Nat) : Int) from hC r0 _ (by omega) (by omega) (by omega) (by omega)]
      refine g_i2f (pc' := 54) hX dX4_shareOf_53 rfl ?_
      refine g_aload_n (pc' := 55) hX dX4_shareOf_54 rfl rfl ?_
      refine gf_X4_80 (pc' := 58) hX dX4_shareOf_55 hM.1.h0 hM.1.hk rfl ?_
      rw [hS.1.1]
      refine g_i2f (pc' := 59) hX dX4_shareOf_58 rfl ?_
      refine g_fdiv (pc' := 60) hX dX4_shareOf_59 (by have := nn_share hM (r := r0) (by omega); unfold shC at this; rw [if_neg (by omega)] at this; exact this) rfl ?_
      exact g_retF hX hF dX4_shareOf_60 ⟨hWA.tr (hW.wk (fun _ _ z => zB_zM z)), hM, by rw [if_pos (by omega)]; exact (hW.rd _ _ (fun z => z.2.2 ⟨rfl, rfl⟩)).trans h4, _, rfl, by first | exact nn_f0 | (have := nn_share hM (r := r0) (by omega); unfold shC at this; rw [if_neg (by omega)] at this; exact this), fun _ => by unfold shC; first | rw [if_pos (by omega)] | rw [if_neg (by omega)]⟩
    · skip
      refine g_fconst0 (pc' := 34) hX dX4_shareOf_33 rfl ?_
      refine g_goto (tgt := 60) hX dX4_shareOf_34 (by decide) ?_
      exact g_retF hX hF dX4_shareOf_60 ⟨hWA.tr (hW.wk (fun _ _ z => zB_zM z)), hM, by rw [if_pos (by omega)]; exact (hW.rd _ _ (fun z => z.2.2 ⟨rfl, rfl⟩)).trans h4, _, rfl, by first | exact nn_f0 | (have := nn_share hM (r := r0) (by omega); unfold shC at this; rw [if_neg (by omega)] at this; exact this), fun _ => by unfold shC; first | rw [if_pos (by omega)] | rw [if_neg (by omega)]⟩

end M14
