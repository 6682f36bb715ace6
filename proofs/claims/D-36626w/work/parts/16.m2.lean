/-! MODEL: permutations, sums (by gen/spec_m2.py) -/
set_option maxRecDepth 100000
set_option maxHeartbeats 4000000
section M2
variable {E : Ev} {mo n m : Int} {w : Wd}
theorem fc_rec {k : Nat} (h : 2 ≤ k) : (fc k : Int) = k * (fc (k - 1) : Int) := by
  match k, h with
  | k + 2, _ => show ((((k + 1) + 1) * fc (k + 1) : Nat) : Int) = _; rw [show k + 2 - 1 = k + 1 by omega]; push_cast; rfl
theorem fc_small {k : Nat} (h : k < 2) : fc k = 1 := by
  match k, h with
  | 0, _ => rfl
  | 1, _ => rfl
theorem c_m_fact_s {k : Int} (d : Nat) (hk : 0 ≤ k ∧ k ≤ 7) (ih : 2 ≤ k → Call E mX4_factorial d 0 0 [vI (k - 1)] w (qE (fc (k - 1).toNat) w)) : Call E mX4_factorial (d + 1) 0 0 [vI k] w (qE (fc k.toNat) w) := by
  refine call_of (av := [(0, k)]) (by decide +kernel) rfl (Nat.le_of_ble_eq_true rfl) ?_
  intro X hX hF hname
  show GG X 0 0 w 0 [(0, k)] []
  refine g_iload_n (pc' := 1) hX dX4_factorial_0 rfl rfl ?_
  refine g_iconst (pc' := 2) hX dX4_factorial_1 rfl ?_
  refine g_icmp_ge (pc' := 5) (tgt := 9) hX dX4_factorial_2 (by decide) rfl (by omega) (by omega) (fun h2 => ?_) (fun h2 => ?_)
  · skip
    refine g_iload_n (pc' := 10) hX dX4_factorial_9 rfl rfl ?_
    refine g_iload_n (pc' := 11) hX dX4_factorial_10 rfl rfl ?_
    refine g_iconst (pc' := 12) hX dX4_factorial_11 rfl ?_
    refine g_isub (pc' := 13) hX dX4_factorial_12 rfl ?_
    refine gS1E0 (pc' := 16) hX dX4_factorial_13 ml_X4_67 (ih (by omega)) (Nat.le_of_ble_eq_true rfl) (Nat.le_refl _) rfl ?_
    refine g_imul (pc' := 17) hX dX4_factorial_16 rfl ?_
    first
      | exact g_retE hX hF dX4_factorial_17 (by rw [fc_small (by omega)]; rfl) rfl
      | exact g_retE hX hF dX4_factorial_17 (by rw [fc_rec (k := k.toNat) (by omega), show (k - 1).toNat = k.toNat - 1 by omega, Int.toNat_of_nonneg hk.1]) rfl
  · skip
    refine g_iconst (pc' := 6) hX dX4_factorial_5 rfl ?_
    refine g_goto (tgt := 17) hX dX4_factorial_6 (by decide) ?_
    first
      | exact g_retE hX hF dX4_factorial_17 (by rw [fc_small (by omega)]; rfl) rfl
      | exact g_retE hX hF dX4_factorial_17 (by rw [fc_rec (k := k.toNat) (by omega), show (k - 1).toNat = k.toNat - 1 by omega, Int.toNat_of_nonneg hk.1]) rfl

theorem c_m_fact (w : Wd) : ∀ (f : Nat) {k : Int}, 0 ≤ k → k ≤ 7 → k < 2 + f → Call E mX4_factorial (f + 1) 0 0 [vI k] w (qE (fc k.toNat) w) := by
  intro f
  induction f with
  | zero => intro k h0 h1 h2; exact c_m_fact_s 0 ⟨h0, h1⟩ (fun h => absurd h (by omega))
  | succ f ih => intro k h0 h1 h2; exact c_m_fact_s (f + 1) ⟨h0, h1⟩ (fun h => ih (by omega) (by omega) (by omega))
theorem c_m_factorial {k : Int} (h0 : 0 ≤ k) (h1 : k ≤ 7) : Call E mX4_factorial 8 0 0 [vI k] w (qE (fc k.toNat) w) := c_m_fact w 7 h0 h1 (by omega)
theorem c_m_begin (hI : MI E mo n m w) : Call E mX4_begin 0 0 0 [vR mo] w (qU (fun w' => MI E mo n m w' ∧ Fr (zP mo) w w' ∧ PA w' (mo + 7) (List.range 7))) := by
  refine call_of (av := [(1, mo)]) (by decide +kernel) rfl (Nat.le_of_ble_eq_true rfl) ?_
  intro X hX hF hname
  show GG X 0 0 w 0 [(1, mo), (9, 0)] []
  have hW : Fr (zP mo) w w := Fr.rf
  skip
  refine g_iconst (pc' := 1) hX dX4_begin_0 rfl ?_
  refine g_istore_n_1 (pc' := 2) hX dX4_begin_1 (by decide) rfl rfl ?_
  have loop : ∀ (f : Nat) (i : Int) (w1 : Wd), 0 ≤ i → i ≤ 7 → MI E mo n m w1 → Fr (zP mo) w w1 → (∀ k : Int, 0 ≤ k → k < i → rdw w1 (mo + 7) k = k) → 7 < i + f → GG X 0 0 w1 2 [(1, mo), (0, i)] [] := by
    intro f
    induction f with
    | zero => intro i w1 h0 h7 hI hW hA hf; exact absurd hf (by omega)
    | succ f ih =>
      intro i w1 h0 h7 hI hW hA hf
      refine g_iload_n (pc' := 3) hX dX4_begin_2 rfl rfl ?_
      refine g_bipush (pc' := 5) hX dX4_begin_3 rfl rfl ?_
      refine g_icmp_ge (pc' := 8) (tgt := 21) hX dX4_begin_5 (by decide) rfl (by omega) (by omega) (fun h5 => ?_) (fun h5 => ?_)
      · skip
        refine g_retU hX hF dX4_begin_21 ⟨hI, hW, fun k k0 k1 => ?_⟩
        have k2 : k < 7 := by simpa using k1
        rw [hA k k0 (by omega), List.getD_eq_getElem?_getD, List.getElem?_range (by omega)]
        simp; omega
      · skip
        refine g_aload_n (pc' := 9) hX dX4_begin_8 rfl rfl ?_
        refine gf_X4_42 (pc' := 12) hX dX4_begin_9 hI.h0 hI.hk rfl ?_
        rw [hI.f 11 (by decide) (show moF 11 = 7 by decide)]
        refine g_iload_n (pc' := 13) hX dX4_begin_12 rfl rfl ?_
        refine g_iload_n (pc' := 14) hX dX4_begin_13 rfl rfl ?_
        refine g_iastL (pc' := 15) hX dX4_begin_14 (by have := hI.hb; omega) (hI.k 7 (by decide) (show moK 7 = 50 by decide)) (hI.l 7 (by decide) (show moN 7 = 7 by decide)) (by omega) rfl ?_
        refine hI.step hW (by omega) (by unfold zP; omega) (fun hI hW => ?_)
        refine g_iinc_1 (pc' := 18) hX dX4_begin_15 (by decide) rfl rfl ?_
        refine g_goto (tgt := 2) hX dX4_begin_18 (by decide) ?_
        exact ih (i + 1) _ (by omega) (by omega) hI hW (fun k k0 k1 => by by_cases e : k = i; (rw [rd_up_eq ⟨rfl, e⟩]; exact e.symm); (rw [rd_up_ne (by omega)]; exact hA k k0 (by omega))) (by omega)
  exact loop 8 0 w (by omega) (by omega) hI hW (fun k k0 k1 => absurd k0 (by omega)) (by omega)

theorem c_m_exchange {i j : Int} {σ : List Nat} (hI : MI E mo n m w) (hP : PA w (mo + 7) σ) (hs : σ.length ≤ 7) (hi : 0 ≤ i ∧ i < σ.length) (hj : 0 ≤ j ∧ j < σ.length) : Call E mX4_exchange 0 0 0 [vR mo, vI i, vI j] w (qU (fun w' => MI E mo n m w' ∧ Fr (zP mo) w w' ∧ PA w' (mo + 7) (sw σ i.toNat j.toNat))) := by
  refine call_of (av := [(1, mo), (0, i), (0, j)]) (by decide +kernel) rfl (Nat.le_of_ble_eq_true rfl) ?_
  intro X hX hF hname
  show GG X 0 0 w 0 [(1, mo), (0, i), (0, j), (9, 0)] []
  have hW : Fr (zP mo) w w := Fr.rf
  skip
  refine g_aload_n (pc' := 1) hX dX4_exchange_0 rfl rfl ?_
  refine gf_X4_42 (pc' := 4) hX dX4_exchange_1 hI.h0 hI.hk rfl ?_
  rw [hI.f 11 (by decide) (show moF 11 = 7 by decide)]
  refine g_iload_n (pc' := 5) hX dX4_exchange_4 rfl rfl ?_
  refine g_ialdL (pc' := 6) hX dX4_exchange_5 (by have := hI.h0; omega) (hI.k 7 (by decide) (show moK 7 = 50 by decide)) (hI.l 7 (by decide) (show moN 7 = 7 by decide)) (by omega) rfl ?_
  refine g_istore_n_3 (pc' := 7) hX dX4_exchange_6 (by decide) rfl rfl ?_
  refine g_aload_n (pc' := 8) hX dX4_exchange_7 rfl rfl ?_
  refine gf_X4_42 (pc' := 11) hX dX4_exchange_8 hI.h0 hI.hk rfl ?_
  rw [hI.f 11 (by decide) (show moF 11 = 7 by decide)]
  refine g_iload_n (pc' := 12) hX dX4_exchange_11 rfl rfl ?_
  refine g_aload_n (pc' := 13) hX dX4_exchange_12 rfl rfl ?_
  refine gf_X4_42 (pc' := 16) hX dX4_exchange_13 hI.h0 hI.hk rfl ?_
  rw [hI.f 11 (by decide) (show moF 11 = 7 by decide)]
  refine g_iload_n (pc' := 17) hX dX4_exchange_16 rfl rfl ?_
  refine g_ialdL (pc' := 18) hX dX4_exchange_17 (by have := hI.h0; omega) (hI.k 7 (by decide) (show moK 7 = 50 by decide)) (hI.l 7 (by decide) (show moN 7 = 7 by decide)) (by omega) rfl ?_
  refine g_iastL (pc' := 19) hX dX4_exchange_18 (by have := hI.hb; omega) (hI.k 7 (by decide) (show moK 7 = 50 by decide)) (hI.l 7 (by decide) (show moN 7 = 7 by decide)) (by omega) rfl ?_
  refine hI.step hW (by omega) (by unfold zP; omega) (fun hI hW => ?_)
  refine g_aload_n (pc' := 20) hX dX4_exchange_19 rfl rfl ?_
  refine gf_X4_42 (pc' := 23) hX dX4_exchange_20 hI.h0 hI.hk rfl ?_
  rw [hI.f 11 (by decide) (show moF 11 = 7 by decide)]
  refine g_iload_n (pc' := 24) hX dX4_exchange_23 rfl rfl ?_
  refine g_iload_n (pc' := 25) hX dX4_exchange_24 rfl rfl ?_
  refine g_iastL (pc' := 26) hX dX4_exchange_25 (by have := hI.hb; omega) (hI.k 7 (by decide) (show moK 7 = 50 by decide)) (hI.l 7 (by decide) (show moN 7 = 7 by decide)) (by omega) rfl ?_
  refine hI.step hW (by omega) (by unfold zP; omega) (fun hI hW => ?_)
  exact g_retU hX hF dX4_exchange_26 ⟨hI, hW, hP.sw hi hj⟩

theorem c_m_sum {σ : List Nat} (hI : MI E mo n m w) (hP : PA w (mo + 7) σ) (hs : σ.length ≤ 7) (hl : ∀ k, k < σ.length → σ.getD k 0 < 7) : Call E mX4_sum 0 0 0 [vR mo, vI (σ.length : Int)] w (qE (ps (cw w mo) 0 σ) w) := by
  refine call_of (av := [(1, mo), (0, (σ.length : Int))]) (by decide +kernel) rfl (Nat.le_of_ble_eq_true rfl) ?_
  intro X hX hF hname
  show GG X 0 0 w 0 [(1, mo), (0, (σ.length : Int)), (9, 0), (9, 0)] []
  refine g_iconst (pc' := 1) hX dX4_sum_0 rfl ?_
  refine g_istore_n_2 (pc' := 2) hX dX4_sum_1 (by decide) rfl rfl ?_
  refine g_iconst (pc' := 3) hX dX4_sum_2 rfl ?_
  refine g_istore_n_3 (pc' := 4) hX dX4_sum_3 (by decide) rfl rfl ?_
  have loop : ∀ (f : Nat) (i acc : Int), 0 ≤ i → i ≤ σ.length → acc = ps (cw w mo) 0 (σ.take i.toNat) → (σ.length : Int) < i + f → GG X 0 0 w 4 [(1, mo), (0, (σ.length : Int)), (0, acc), (0, i)] [] := by
    intro f
    induction f with
    | zero => intro i acc h0 h7 ha hf; exact absurd hf (by omega)
    | succ f ih =>
      intro i acc h0 h7 ha hf
      refine g_iload_n (pc' := 5) hX dX4_sum_4 rfl rfl ?_
      refine g_iload_n (pc' := 6) hX dX4_sum_5 rfl rfl ?_
      refine g_icmp_ge (pc' := 9) (tgt := 34) hX dX4_sum_6 (by decide) rfl (by omega) (by omega) (fun h6 => ?_) (fun h6 => ?_)
      · skip
        refine g_iload_n (pc' := 35) hX dX4_sum_34 rfl rfl ?_
        exact g_retE hX hF dX4_sum_35 (by rw [ha, List.take_of_length_le (by omega)]) rfl
      · skip
        refine g_iload_n (pc' := 10) hX dX4_sum_9 rfl rfl ?_
        refine g_aload_n (pc' := 11) hX dX4_sum_10 rfl rfl ?_
        refine gf_X4_36 (pc' := 14) hX dX4_sum_11 hI.h0 hI.hk rfl ?_
        rw [hI.f 9 (by decide) (show moF 9 = 5 by decide)]
        refine g_bipush (pc' := 16) hX dX4_sum_14 rfl rfl ?_
        refine g_iload_n (pc' := 17) hX dX4_sum_16 rfl rfl ?_
        refine g_imul (pc' := 18) hX dX4_sum_17 rfl ?_
        refine g_aload_n (pc' := 19) hX dX4_sum_18 rfl rfl ?_
        refine gf_X4_42 (pc' := 22) hX dX4_sum_19 hI.h0 hI.hk rfl ?_
        rw [hI.f 11 (by decide) (show moF 11 = 7 by decide)]
        refine g_iload_n (pc' := 23) hX dX4_sum_22 rfl rfl ?_
        refine g_ialdL (pc' := 24) hX dX4_sum_23 (by have := hI.h0; omega) (hI.k 7 (by decide) (show moK 7 = 50 by decide)) (hI.l 7 (by decide) (show moN 7 = 7 by decide)) (by omega) rfl ?_
        rw [hP i h0 (by omega)]
        have hl1 := hl i.toNat (by omega)
        refine g_iadd (pc' := 25) hX dX4_sum_24 rfl ?_
        refine g_ialdL (pc' := 26) hX dX4_sum_25 (by have := hI.h0; omega) (hI.k 5 (by decide) (show moK 5 = 50 by decide)) (hI.l 5 (by decide) (show moN 5 = 49 by decide)) (by omega) rfl ?_
        refine g_iadd (pc' := 27) hX dX4_sum_26 rfl ?_
        refine g_istore_n_2 (pc' := 28) hX dX4_sum_27 (by decide) rfl rfl ?_
        refine g_iinc_3 (pc' := 31) hX dX4_sum_28 (by decide) rfl rfl ?_
        refine g_goto (tgt := 4) hX dX4_sum_31 (by decide) ?_
        exact ih (i + 1) _ (by omega) (by omega) (by rw [ha, show (i + 1).toNat = i.toNat + 1 by omega, ps_take (by omega), Int.zero_add, Int.toNat_of_nonneg h0]; rfl) (by omega)
  exact loop (σ.length + 1) 0 0 (by omega) (by omega) rfl (by omega)

end M2
