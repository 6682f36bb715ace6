/-! FLOATS: a quotient of whole numbers is a number (by gen/spec_float.py) -/
set_option maxRecDepth 100000
theorem fl_t64 : FP.Core.b64.tails = 2 ^ 52 := by decide
theorem fl_x64 : FP.Core.b64.exps = 2 ^ 11 := by decide
theorem fl_p64 : FP.Core.b64.p = 53 := rfl
theorem fl_qn64 : FP.Core.b64.qmin = -1074 := by decide
theorem fl_qx64 : FP.Core.b64.qmax = 971 := by decide
theorem fl_rr64 {s : Bool} {A D : Nat} {e : Int} : FP.Core.roundRatio FP.Core.b64 s A D e = .inf s ∨ ∃ c q, FP.Core.roundRatio FP.Core.b64 s A D e = .fin s c q ∧ c < 2 ^ 53 ∧ q ≤ 971 := by
  unfold FP.Core.roundRatio
  split
  · exact Or.inr ⟨0, _, rfl, by omega, by rw [fl_qn64]; omega⟩
  · unfold FP.Core.roundAt FP.Core.settle FP.Core.bound
    rw [fl_qx64, fl_p64, fl_t64]
    split
    · split
      · exact Or.inr ⟨_, _, rfl, by assumption, by assumption⟩
      · exact Or.inl rfl
    · split
      · exact Or.inr ⟨_, _, rfl, by omega, by assumption⟩
      · exact Or.inl rfl
theorem fl_as64 {s : Bool} {E T : Nat} : FP.Core.assemble FP.Core.b64 s E T = (s.toNat * 2 ^ 11 + E) * 2 ^ 52 + T := by unfold FP.Core.assemble; rw [fl_t64, fl_x64]
theorem fl_en64 {d : FP.Core.Datum} {s : Bool} (h : d = .inf s ∨ ∃ c q, d = .fin s c q ∧ c < 2 ^ 53 ∧ q ≤ 971) : FP.Core.encode FP.Core.b64 d % 2 ^ 63 ≤ 2047 * 2 ^ 52 ∧ FP.Core.encode FP.Core.b64 d < 2 ^ 64 := by
  have hs : s.toNat = 0 ∨ s.toNat = 1 := by cases s <;> simp
  rcases h with rfl | ⟨c, q, rfl, hc, hq⟩
  · simp only [FP.Core.encode, fl_as64, fl_x64]
    omega
  · simp only [FP.Core.encode, fl_as64, fl_t64, fl_qn64]
    split
    · omega
    · have : (q - (-1074)).toNat ≤ 2045 := by omega
      omega
theorem fl_vn64 {d : FP.Core.Datum} {s : Bool} (h : d = .inf s ∨ ∃ c q, d = .fin s c q ∧ c < 2 ^ 53 ∧ q ≤ 971) : vf_n64 (UInt64.ofNat (FP.Core.encode FP.Core.b64 d)) := by
  have h1 := fl_en64 h
  unfold vf_n64
  rw [UInt64.le_iff_toNat_le, UInt64.toNat_and, UInt64.toNat_ofNat_of_lt' h1.2]
  have e1 : (0x7fffffffffffffff : UInt64).toNat = 2 ^ 63 - 1 := by decide
  have e2 : (0x7ff0000000000000 : UInt64).toNat = 2047 * 2 ^ 52 := by decide
  rw [e1, e2, Nat.and_two_pow_sub_one_eq_mod]
  exact h1.1
theorem fl_nn64 {r : UInt64} (h : vf_n64 r) : FP.Core.decode FP.Core.b64 r.toNat ≠ .nan := by
  unfold vf_n64 at h
  rw [UInt64.le_iff_toNat_le, UInt64.toNat_and] at h
  have e1 : (0x7fffffffffffffff : UInt64).toNat = 2 ^ 63 - 1 := by decide
  have e2 : (0x7ff0000000000000 : UInt64).toNat = 2047 * 2 ^ 52 := by decide
  rw [e1, e2, Nat.and_two_pow_sub_one_eq_mod] at h
  unfold FP.Core.decode FP.Core.fieldE FP.Core.fieldT
  rw [fl_t64, fl_x64]
  split
  · rename_i h2
    rw [if_pos (by omega)]
    simp
  · split <;> simp
/-- a whole number, not too great: finite, and not zero but of zero -/
theorem fl_int64 {x : Int} (hx : x.natAbs < 2 ^ 31) : ∃ s c q, FP.Core.decode FP.Core.b64 (FP.Core.fromInt FP.Core.b64 x) = .fin s c q ∧ (x ≠ 0 → c ≠ 0) := by
  have hr : ∃ c q, FP.Core.round FP.Core.b64 (FP.Core.ofInt x) = .fin (decide (x < 0)) c q ∧ c < 2 ^ 53 ∧ q ≤ 971 ∧ (x ≠ 0 → c ≠ 0) := by
    show ∃ c q, FP.Core.roundRatio FP.Core.b64 _ x.natAbs 1 0 = _ ∧ _
    unfold FP.Core.roundRatio
    by_cases h0 : x.natAbs = 0
    · rw [if_pos h0]
      exact ⟨0, _, rfl, by omega, by rw [fl_qn64]; omega, fun z => absurd z (by omega)⟩
    · rw [if_neg h0]
      have hq : FP.Core.quantum FP.Core.b64 x.natAbs 1 0 ≤ 0 := by
        unfold FP.Core.quantum
        rw [fl_qn64, fl_p64]
        have hl : FP.Core.leading x.natAbs 1 ≤ 30 := by
          have h1 : x.natAbs.log2 < 31 := (Nat.log2_lt h0).mpr hx
          unfold FP.Core.leading
          have h2 : (1 : Nat).log2 = 0 := by decide
          rw [h2]
          simp only []
          split <;> omega
        omega
      unfold FP.Core.roundAt
      generalize FP.Core.quantum FP.Core.b64 x.natAbs 1 0 = q at hq
      have hu : FP.Core.unitsDen 1 0 q = 1 := by unfold FP.Core.unitsDen; rw [show (q - 0).toNat = 0 by omega]
      have hn : FP.Core.nearest (FP.Core.unitsNum x.natAbs 0 q) 1 = FP.Core.unitsNum x.natAbs 0 q := by unfold FP.Core.nearest; rw [Nat.mod_one, Nat.div_one]; rfl
      have hp : FP.Core.unitsNum x.natAbs 0 q ≠ 0 := by
        unfold FP.Core.unitsNum
        exact Nat.mul_ne_zero h0 (Nat.pos_iff_ne_zero.mp (Nat.two_pow_pos _))
      rw [hu, hn]
      generalize FP.Core.unitsNum x.natAbs 0 q = N at hp
      unfold FP.Core.settle FP.Core.bound
      rw [fl_qx64, fl_p64, fl_t64]
      by_cases hN : N < 2 ^ 53
      · rw [if_pos hN, if_pos (by omega)]
        exact ⟨_, _, rfl, hN, by omega, fun _ => hp⟩
      · rw [if_neg hN, if_pos (by omega)]
        exact ⟨_, _, rfl, by omega, by omega, fun _ => by omega⟩
  obtain ⟨c, q, hr, hc, hq, h0⟩ := hr
  unfold FP.Core.fromInt
  rw [hr]
  generalize decide (x < 0) = s
  have hs : s.toNat = 0 ∨ s.toNat = 1 := by cases s <;> simp
  simp only [FP.Core.encode, fl_as64, fl_t64, fl_qn64]
  unfold FP.Core.decode FP.Core.fieldE FP.Core.fieldT
  rw [fl_t64, fl_x64]
  split
  · rw [if_neg (by omega), if_pos (by omega)]
    exact ⟨_, _, _, rfl, fun z => by have := h0 z; omega⟩
  · have : (q - (-1074)).toNat ≤ 2045 := by omega
    rw [if_neg (by omega), if_neg (by omega)]
    exact ⟨_, _, _, rfl, fun z => by omega⟩
theorem fl_t32 : FP.Core.b32.tails = 2 ^ 23 := by decide
theorem fl_x32 : FP.Core.b32.exps = 2 ^ 8 := by decide
theorem fl_p32 : FP.Core.b32.p = 24 := rfl
theorem fl_qn32 : FP.Core.b32.qmin = -149 := by decide
theorem fl_qx32 : FP.Core.b32.qmax = 104 := by decide
theorem fl_rr32 {s : Bool} {A D : Nat} {e : Int} : FP.Core.roundRatio FP.Core.b32 s A D e = .inf s ∨ ∃ c q, FP.Core.roundRatio FP.Core.b32 s A D e = .fin s c q ∧ c < 2 ^ 24 ∧ q ≤ 104 := by
  unfold FP.Core.roundRatio
  split
  · exact Or.inr ⟨0, _, rfl, by omega, by rw [fl_qn32]; omega⟩
  · unfold FP.Core.roundAt FP.Core.settle FP.Core.bound
    rw [fl_qx32, fl_p32, fl_t32]
    split
    · split
      · exact Or.inr ⟨_, _, rfl, by assumption, by assumption⟩
      · exact Or.inl rfl
    · split
      · exact Or.inr ⟨_, _, rfl, by omega, by assumption⟩
      · exact Or.inl rfl
theorem fl_as32 {s : Bool} {E T : Nat} : FP.Core.assemble FP.Core.b32 s E T = (s.toNat * 2 ^ 8 + E) * 2 ^ 23 + T := by unfold FP.Core.assemble; rw [fl_t32, fl_x32]
theorem fl_en32 {d : FP.Core.Datum} {s : Bool} (h : d = .inf s ∨ ∃ c q, d = .fin s c q ∧ c < 2 ^ 24 ∧ q ≤ 104) : FP.Core.encode FP.Core.b32 d % 2 ^ 31 ≤ 255 * 2 ^ 23 ∧ FP.Core.encode FP.Core.b32 d < 2 ^ 32 := by
  have hs : s.toNat = 0 ∨ s.toNat = 1 := by cases s <;> simp
  rcases h with rfl | ⟨c, q, rfl, hc, hq⟩
  · simp only [FP.Core.encode, fl_as32, fl_x32]
    omega
  · simp only [FP.Core.encode, fl_as32, fl_t32, fl_qn32]
    split
    · omega
    · have : (q - (-149)).toNat ≤ 253 := by omega
      omega
theorem fl_vn32 {d : FP.Core.Datum} {s : Bool} (h : d = .inf s ∨ ∃ c q, d = .fin s c q ∧ c < 2 ^ 24 ∧ q ≤ 104) : vf_n32 (UInt32.ofNat (FP.Core.encode FP.Core.b32 d)) := by
  have h1 := fl_en32 h
  unfold vf_n32
  rw [UInt32.le_iff_toNat_le, UInt32.toNat_and, UInt32.toNat_ofNat_of_lt' h1.2]
  have e1 : (0x7fffffff : UInt32).toNat = 2 ^ 31 - 1 := by decide
  have e2 : (0x7f800000 : UInt32).toNat = 255 * 2 ^ 23 := by decide
  rw [e1, e2, Nat.and_two_pow_sub_one_eq_mod]
  exact h1.1
theorem fl_nn32 {r : UInt32} (h : vf_n32 r) : FP.Core.decode FP.Core.b32 r.toNat ≠ .nan := by
  unfold vf_n32 at h
  rw [UInt32.le_iff_toNat_le, UInt32.toNat_and] at h
  have e1 : (0x7fffffff : UInt32).toNat = 2 ^ 31 - 1 := by decide
  have e2 : (0x7f800000 : UInt32).toNat = 255 * 2 ^ 23 := by decide
  rw [e1, e2, Nat.and_two_pow_sub_one_eq_mod] at h
  unfold FP.Core.decode FP.Core.fieldE FP.Core.fieldT
  rw [fl_t32, fl_x32]
  split
  · rename_i h2
    rw [if_pos (by omega)]
    simp
  · split <;> simp
/-- a whole number, not too great: finite, and not zero but of zero -/
theorem fl_int32 {x : Int} (hx : x.natAbs < 2 ^ 24) : ∃ s c q, FP.Core.decode FP.Core.b32 (FP.Core.fromInt FP.Core.b32 x) = .fin s c q ∧ (x ≠ 0 → c ≠ 0) := by
  have hr : ∃ c q, FP.Core.round FP.Core.b32 (FP.Core.ofInt x) = .fin (decide (x < 0)) c q ∧ c < 2 ^ 24 ∧ q ≤ 104 ∧ (x ≠ 0 → c ≠ 0) := by
    show ∃ c q, FP.Core.roundRatio FP.Core.b32 _ x.natAbs 1 0 = _ ∧ _
    unfold FP.Core.roundRatio
    by_cases h0 : x.natAbs = 0
    · rw [if_pos h0]
      exact ⟨0, _, rfl, by omega, by rw [fl_qn32]; omega, fun z => absurd z (by omega)⟩
    · rw [if_neg h0]
      have hq : FP.Core.quantum FP.Core.b32 x.natAbs 1 0 ≤ 0 := by
        unfold FP.Core.quantum
        rw [fl_qn32, fl_p32]
        have hl : FP.Core.leading x.natAbs 1 ≤ 23 := by
          have h1 : x.natAbs.log2 < 24 := (Nat.log2_lt h0).mpr hx
          unfold FP.Core.leading
          have h2 : (1 : Nat).log2 = 0 := by decide
          rw [h2]
          simp only []
          split <;> omega
        omega
      unfold FP.Core.roundAt
      generalize FP.Core.quantum FP.Core.b32 x.natAbs 1 0 = q at hq
      have hu : FP.Core.unitsDen 1 0 q = 1 := by unfold FP.Core.unitsDen; rw [show (q - 0).toNat = 0 by omega]
      have hn : FP.Core.nearest (FP.Core.unitsNum x.natAbs 0 q) 1 = FP.Core.unitsNum x.natAbs 0 q := by unfold FP.Core.nearest; rw [Nat.mod_one, Nat.div_one]; rfl
      have hp : FP.Core.unitsNum x.natAbs 0 q ≠ 0 := by
        unfold FP.Core.unitsNum
        exact Nat.mul_ne_zero h0 (Nat.pos_iff_ne_zero.mp (Nat.two_pow_pos _))
      rw [hu, hn]
      generalize FP.Core.unitsNum x.natAbs 0 q = N at hp
      unfold FP.Core.settle FP.Core.bound
      rw [fl_qx32, fl_p32, fl_t32]
      by_cases hN : N < 2 ^ 24
      · rw [if_pos hN, if_pos (by omega)]
        exact ⟨_, _, rfl, hN, by omega, fun _ => hp⟩
      · rw [if_neg hN, if_pos (by omega)]
        exact ⟨_, _, rfl, by omega, by omega, fun _ => by omega⟩
  obtain ⟨c, q, hr, hc, hq, h0⟩ := hr
  unfold FP.Core.fromInt
  rw [hr]
  generalize decide (x < 0) = s
  have hs : s.toNat = 0 ∨ s.toNat = 1 := by cases s <;> simp
  simp only [FP.Core.encode, fl_as32, fl_t32, fl_qn32]
  unfold FP.Core.decode FP.Core.fieldE FP.Core.fieldT
  rw [fl_t32, fl_x32]
  split
  · rw [if_neg (by omega), if_pos (by omega)]
    exact ⟨_, _, _, rfl, fun z => by have := h0 z; omega⟩
  · have : (q - (-149)).toNat ≤ 253 := by omega
    rw [if_neg (by omega), if_neg (by omega)]
    exact ⟨_, _, _, rfl, fun z => by omega⟩
theorem i32_val {x : Int} (hx : -2147483648 ≤ x ∧ x ≤ 2147483647) : (Int32.ofInt x).toInt = x := Int32.toInt_ofInt_of_le (by simp; omega) (by simp; omega)
theorem fl_lt64 {d : FP.Core.Datum} {s : Bool} (h : d = .inf s ∨ ∃ c q, d = .fin s c q ∧ c < 2 ^ 53 ∧ q ≤ 971) : (UInt64.ofNat (FP.Core.encode FP.Core.b64 d)).toNat = FP.Core.encode FP.Core.b64 d := UInt64.toNat_ofNat_of_lt' (fl_en64 h).2
theorem fl_i2d {x : Int} (hx : x.natAbs < 2 ^ 31) : (FP.i2d (Int32.ofInt x)).toNat = FP.Core.fromInt FP.Core.b64 x := by
  show (UInt64.ofNat (FP.Core.fromInt FP.Core.b64 (Int32.ofInt x).toInt)).toNat = _
  rw [i32_val (by omega)]
  exact fl_lt64 fl_rr64
theorem fl_i2f {x : Int} (hx : x.natAbs < 2 ^ 24) : (FP.i2f (Int32.ofInt x)).toNat = FP.Core.fromInt FP.Core.b32 x := by
  show (UInt32.ofNat (FP.Core.fromInt FP.Core.b32 (Int32.ofInt x).toInt)).toNat = _
  rw [i32_val (by omega)]
  exact UInt32.toNat_ofNat_of_lt' (fl_en32 fl_rr32).2
theorem nn_ddiv {x y : Int} (hx : x.natAbs < 2 ^ 31) (hy : y.natAbs < 2 ^ 31) (h0 : y ≠ 0) : vf_n64 (FP.ddiv (FP.i2d (Int32.ofInt x)) (FP.i2d (Int32.ofInt y))) := by
  obtain ⟨s, c, q, h1, _⟩ := fl_int64 hx
  obtain ⟨t, dd, r, h2, h3⟩ := fl_int64 hy
  show vf_n64 (UInt64.ofNat (FP.Core.encode FP.Core.b64 (FP.Core.quotient FP.Core.b64 (FP.Core.decode FP.Core.b64 (FP.i2d (Int32.ofInt x)).toNat) (FP.Core.decode FP.Core.b64 (FP.i2d (Int32.ofInt y)).toNat))))
  rw [fl_i2d hx, fl_i2d hy, h1, h2]
  unfold FP.Core.quotient
  simp only []
  rw [if_neg (h3 h0)]
  exact fl_vn64 fl_rr64
theorem nn_fdiv {x y : Int} (hx : x.natAbs < 2 ^ 24) (hy : y.natAbs < 2 ^ 24) (h0 : y ≠ 0) : vf_n32 (FP.fdiv (FP.i2f (Int32.ofInt x)) (FP.i2f (Int32.ofInt y))) := by
  obtain ⟨s, c, q, h1, _⟩ := fl_int32 hx
  obtain ⟨t, dd, r, h2, h3⟩ := fl_int32 hy
  show vf_n32 (UInt32.ofNat (FP.Core.encode FP.Core.b32 (FP.Core.quotient FP.Core.b32 (FP.Core.decode FP.Core.b32 (FP.i2f (Int32.ofInt x)).toNat) (FP.Core.decode FP.Core.b32 (FP.i2f (Int32.ofInt y)).toNat))))
  rw [fl_i2f hx, fl_i2f hy, h1, h2]
  unfold FP.Core.quotient
  simp only []
  rw [if_neg (h3 h0)]
  exact fl_vn32 fl_rr32
theorem nn_f0 : vf_n32 0 := by unfold vf_n32; decide
theorem nn_f2d {a : UInt32} (h : vf_n32 a) : vf_n64 (FP.f2d a) := by
  have h1 := fl_nn32 h
  unfold FP.f2d
  have h2 : FP.Core.fIsNaN a = false := by
    show decide (FP.Core.decode FP.Core.b32 a.toNat = .nan) = false
    exact decide_eq_false h1
  rw [h2, if_neg (by decide)]
  show vf_n64 (UInt64.ofNat (FP.Core.encode FP.Core.b64 (FP.Core.round FP.Core.b64 (FP.Core.decode FP.Core.b32 a.toNat))))
  cases hd : FP.Core.decode FP.Core.b32 a.toNat with
  | nan => exact absurd hd h1
  | inf s => exact fl_vn64 (s := s) (Or.inl rfl)
  | fin s c q => exact fl_vn64 (fl_rr64 (s := s) (A := c) (D := 1) (e := q))
theorem dcmp_eq {a : UInt64} (h : vf_n64 a) : FP.dcmp a a = some .eq := by
  have h1 := fl_nn64 h
  show FP.Core.order (FP.Core.decode FP.Core.b64 a.toNat) (FP.Core.decode FP.Core.b64 a.toNat) = some .eq
  cases hd : FP.Core.decode FP.Core.b64 a.toNat with
  | nan => exact absurd hd h1
  | inf s => cases s <;> rfl
  | fin s c q =>
    unfold FP.Core.order
    simp only []
    rw [show compare (FP.Core.signed s (FP.Core.inUnits c q (min q q))) (FP.Core.signed s (FP.Core.inUnits c q (min q q))) = Ordering.eq from by simp [compare, compareOfLessAndEq]]
