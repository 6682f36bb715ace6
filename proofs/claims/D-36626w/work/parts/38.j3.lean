/-! THE LIBRARY: copies, new lengths (by gen/spec_j3.py) -/
set_option maxRecDepth 100000
set_option maxHeartbeats 4000000
section J3S
variable {E : Ev} {w : Wd} {a l n i it c v o : Int}
theorem b_half : ∀ s < 4096, Int32.ofInt ((s : Nat) : Int) >>> (Int32.ofInt 1 &&& 31) = Int32.ofInt ((s / 2 : Nat) : Int) := by decide +kernel
theorem b_uhalf : ∀ s < 4096, ((Int32.ofInt ((s : Nat) : Int)).toUInt32 >>> ((Int32.ofInt 1).toUInt32 &&& Int32.toUInt32 31)).toInt32 = Int32.ofInt ((s / 2 : Nat) : Int) := by decide +kernel
theorem b_half' {x : Int} (h : 0 ≤ x ∧ x < 4096) : Int32.ofInt x >>> (Int32.ofInt 1 &&& 31) = Int32.ofInt (x / 2) := by
  have := b_half x.toNat (by omega)
  rw [Int.toNat_of_nonneg h.1] at this
  rw [this, show ((x.toNat / 2 : Nat) : Int) = x / 2 by omega]
theorem b_uhalf' {x : Int} (h : 0 ≤ x ∧ x < 4096) : ((Int32.ofInt x).toUInt32 >>> ((Int32.ofInt 1).toUInt32 &&& Int32.toUInt32 31)).toInt32 = Int32.ofInt (x / 2) := by
  have := b_uhalf x.toNat (by omega)
  rw [Int.toNat_of_nonneg h.1] at this
  rw [this, show ((x.toNat / 2 : Nat) : Int) = x / 2 by omega]
theorem b_dbl : ∀ s < 4096, Int32.ofInt ((s : Nat) : Int) <<< (Int32.ofInt 1 &&& 31) = Int32.ofInt ((2 * s : Nat) : Int) := by decide +kernel
theorem b_dbl' {x : Int} (h : 0 ≤ x ∧ x < 4096) : Int32.ofInt x <<< (Int32.ofInt 1 &&& 31) = Int32.ofInt (2 * x) := by
  have := b_dbl x.toNat (by omega)
  rw [Int.toNat_of_nonneg h.1] at this
  rw [this, show ((2 * x.toNat : Nat) : Int) = 2 * x by omega]
/-- a copy in a new array -/
def cpy (w : Wd) (a : Int) (k N : Nat) : Wd := cpw (alw w k (N : Int) (fun _ => -1)) a (szw w) 0 0 (if lnw w a ≤ N then lnw w a else N)
theorem c_j_newLen (ha : 0 ≤ a ∧ a ≤ 1000000) (hi : 1 ≤ i ∧ i ≤ 1000000) (hn : 0 ≤ n ∧ n ≤ 1000000) : Call E mJ5_newLength 1 0 0 [vI a, vI i, vI n] w (qE (if i < n then a + n else a + i) w) := by
  refine call_of (av := [(0, a), (0, i), (0, n)]) (by decide +kernel) rfl (Nat.le_of_ble_eq_true rfl) ?_
  intro X hX hF hname
  show GG X 0 0 w 0 [(0, a), (0, i), (0, n), (9, 0)] []
  have hF0 := hF
  refine g_iload_n (pc' := 1) hX dJ5_newLength_0 rfl rfl ?_
  refine g_iload_n (pc' := 2) hX dJ5_newLength_1 rfl rfl ?_
  refine g_iload_n (pc' := 3) hX dJ5_newLength_2 rfl rfl ?_
  refine g_mmax (pc' := 6) hX dJ5_newLength_3 q172 q173 q64 q174 (by omega) (by omega) (by omega) (Nat.le_of_ble_eq_true rfl) rfl ?_
  have e1 : a + (if i < n then n else i) = (if i < n then a + n else a + i) := by split <;> rfl
  refine g_iadd (pc' := 7) hX dJ5_newLength_6 rfl ?_
  rw [e1]
  refine g_istore_n_3 (pc' := 8) hX dJ5_newLength_7 (by decide) rfl rfl ?_
  refine g_iconst (pc' := 9) hX dJ5_newLength_8 rfl ?_
  refine g_iload_n (pc' := 10) hX dJ5_newLength_9 rfl rfl ?_
  refine g_icmp_ge (pc' := 13) (tgt := 21) hX dJ5_newLength_10 (by decide) rfl (by omega) (by omega) (fun h10 => absurd h10 (by omega)) (fun h10 => ?_)
  refine g_iload_n (pc' := 14) hX dJ5_newLength_13 rfl rfl ?_
  refine g_ldc (pc' := 16) (n := 2147483639) hX dJ5_newLength_14 q175 rfl rfl ?_
  refine g_icmp_gt (pc' := 19) (tgt := 21) hX dJ5_newLength_16 (by decide) rfl (by omega) (by omega) (fun h16 => absurd h16 (by omega)) (fun h16 => ?_)
  refine g_iload_n (pc' := 20) hX dJ5_newLength_19 rfl rfl ?_
  exact g_retE hX hF dJ5_newLength_20 (rfl) rfl

theorem c_j_copyOf2 {N : Nat} (ha : 0 ≤ a) (hk : 55 ≤ kdw w a) (hla : 0 ≤ lnw w a ∧ lnw w a ≤ 1000000) (hok : ∀ j, 0 ≤ j → j < lnw w a → okr w (rdw w a j)) (hN : N ≤ 1000000) (kt : Nat) (hkt : 55 ≤ kt) : Call E mJ7_copyOf_2 2 1 N [vR a, vI (N : Int), vR (eM E : Int)] w (qEA (szw w) (cpy w a kt N)) := by
  refine call_of (av := [(1, a), (0, (N : Int)), (1, (eM E : Int))]) (by decide +kernel) rfl (Nat.le_of_ble_eq_true rfl) ?_
  intro X hX hF hname
  show GG X 1 N w 0 [(1, a), (0, (N : Int)), (1, (eM E : Int)), (9, 0)] []
  refine g_fr (fun hfr hs0 => ?_)
  refine g_szB hX (fun hszB => ?_)
  have hne : a ≠ szw w := fun z => by have h1 := hfr a (by omega); omega
  refine g_aload_n (pc' := 1) hX dJ7_copyOf_2_0 rfl rfl ?_
  refine g_ldcM (pc' := 3) hX dJ7_copyOf_2_1 q207 rfl ?_
  refine g_acmp_ne (pc' := 6) (tgt := 13) hX dJ7_copyOf_2_3 (by decide) rfl (by omega) (by omega) (fun h3 => absurd rfl h3) (fun h3 => ?_)
  refine g_iload_n (pc' := 7) hX dJ7_copyOf_2_6 rfl rfl ?_
  refine g_anew (pc' := 10) kt N hX dJ7_copyOf_2_7 hkt q209 rfl hN (by omega) (by omega) rfl ?_
  have hka : kdw (alw w kt (N : Int) (fun _ => -1)) a = kdw w a := by rw [kd_al, if_neg hne]
  have hlna : lnw (alw w kt (N : Int) (fun _ => -1)) a = lnw w a := by rw [ln_al, if_neg hne]
  refine g_goto (tgt := 24) hX dJ7_copyOf_2_10 (by decide) ?_
  refine g_astore_n_3 (pc' := 25) hX dJ7_copyOf_2_24 (by decide) rfl rfl ?_
  refine g_aload_n (pc' := 26) hX dJ7_copyOf_2_25 rfl rfl ?_
  refine g_iconst (pc' := 27) hX dJ7_copyOf_2_26 rfl ?_
  refine g_aload_n (pc' := 28) hX dJ7_copyOf_2_27 rfl rfl ?_
  refine g_iconst (pc' := 29) hX dJ7_copyOf_2_28 rfl ?_
  refine g_aload_n (pc' := 30) hX dJ7_copyOf_2_29 rfl rfl ?_
  refine g_alenL (n := lnw w a) (pc' := 31) hX dJ7_copyOf_2_30 ha (by rw [hka]; omega) hlna (by omega) rfl ?_
  refine g_iload_n (pc' := 32) hX dJ7_copyOf_2_31 rfl rfl ?_
  refine g_mmin (pc' := 35) hX dJ7_copyOf_2_32 q210 q211 q64 q212 (by omega) (by omega) (by omega) (Nat.le_of_ble_eq_true rfl) rfl ?_
  rw [show (if (N : Int) < lnw w a then (N : Int) else lnw w a) = (if lnw w a ≤ N then lnw w a else N) by (repeat' split) <;> omega]
  refine g_arrcopy (pc' := 38) hX dJ7_copyOf_2_35 q213 q215 q214 q66 ha hszB (by rw [hka]; omega) (by rw [kd_al, if_pos rfl]; omega) (by omega) (by omega) (by split <;> omega) (by rw [hlna]; split <;> omega) (by rw [ln_al, if_pos rfl]; split <;> omega) (by rw [hlna, ln_al, if_pos rfl]; omega) (fun j j0 j1 => by rw [rd_al, if_neg hne]; exact okr_al (f := fun _ => -1) hfr (hok j (by omega) (by split at j1 <;> omega))) (by decide) (Nat.le_of_ble_eq_true rfl) rfl ?_
  refine g_aload_n (pc' := 39) hX dJ7_copyOf_2_38 rfl rfl ?_
  exact g_retEA hX hF rfl dJ7_copyOf_2_39 (rfl) rfl

theorem c_j_copyOf {N : Nat} (ha : 0 ≤ a) (hk : 55 ≤ kdw w a) (hla : 0 ≤ lnw w a ∧ lnw w a ≤ 1000000) (hok : ∀ j, 0 ≤ j → j < lnw w a → okr w (rdw w a j)) (hN : N ≤ 1000000) (kt : Nat) (hkt : 55 ≤ kt) : Call E mJ7_copyOf 3 1 N [vR a, vI (N : Int)] w (qEA (szw w) (cpy w a kt N)) := by
  refine call_of (av := [(1, a), (0, (N : Int))]) (by decide +kernel) rfl (Nat.le_of_ble_eq_true rfl) ?_
  intro X hX hF hname
  show GG X 1 N w 0 [(1, a), (0, (N : Int))] []
  refine g_aload_n (pc' := 1) hX dJ7_copyOf_0 rfl rfl ?_
  refine g_iload_n (pc' := 2) hX dJ7_copyOf_1 rfl rfl ?_
  refine g_aload_n (pc' := 3) hX dJ7_copyOf_2 rfl rfl ?_
  refine g_getC (pc' := 6) hX dJ7_copyOf_3 q182 q1903 q183 q203 ha hk (by decide) (Nat.le_of_ble_eq_true rfl) rfl ?_
  refine gS3EA (pc' := 9) hX dJ7_copyOf_6 ml_J7_300 (c_j_copyOf2 ha hk hla hok hN kt hkt) (Nat.le_of_ble_eq_true rfl) (by decide) (by omega) rfl ?_
  exact g_retEA hX hF rfl dJ7_copyOf_9 (rfl) rfl

end J3S
