/-! THE LIBRARY: a priority queue's methods (by gen/spec_j5.py) -/
set_option maxRecDepth 100000
set_option maxHeartbeats 4000000
/-- a queue of s things: the members of S, in a heap by rk -/
def PQ (E : Ev) (w : Wd) (q co s : Int) (S : Int → Prop) (rk : Int → Int) : Prop :=
  ((eB E : Int) ≤ q ∧ kdw w q = 9 ∧ rdw w q 1 = s ∧ rdw w q 2 = co ∧ 0 ≤ s) ∧
  ((eB E : Int) ≤ rdw w q 0 ∧ kdw w (rdw w q 0) = 60 + q.toNat ∧ s ≤ lnw w (rdw w q 0) ∧ 11 ≤ lnw w (rdw w q 0) ∧ lnw w (rdw w q 0) < 4096) ∧
  PMo (fun i => rdw w (rdw w q 0) i) s S ∧ HPo rk (fun i => rdw w (rdw w q 0) i) s ∧ ∀ i : Int, s ≤ i → i < lnw w (rdw w q 0) → rdw w (rdw w q 0) i = -1
section J5S
variable {E : Ev} {w : Wd} {a l n i it c v o qv co s x k : Int} {S : Int → Prop} {rk : Int → Int}
theorem PMo.zero {B : Int → Int} : PMo B 0 (fun _ => False) := ⟨fun i j i0 i1 _ _ _ => by omega, fun r => ⟨fun h => h.elim, fun ⟨i, i0, i1, _⟩ => by omega⟩⟩
theorem HPo.zero {rk B : Int → Int} {n : Int} (h : n ≤ 1) : HPo rk B n := fun i i1 i2 => by omega
theorem c_j_size (hQ : PQ E w qv co s S rk) : Call E mJ9_size 0 0 0 [vR qv] w (qE s w) := by
  refine call_of (av := [(1, qv)]) (by decide +kernel) rfl (Nat.le_of_ble_eq_true rfl) ?_
  intro X hX hF hname
  show GG X 0 0 w 0 [(1, qv)] []
  refine g_aload_n (pc' := 1) hX dJ9_size_0 rfl rfl ?_
  refine gf_J9_58 (pc' := 4) hX dJ9_size_1 (nn_b hQ.1.1) hQ.1.2.1 rfl ?_
  rw [hQ.1.2.2.1]
  exact g_retE hX hF dJ9_size_4 (rfl) rfl

theorem c_j_peek (hQ : PQ E w qv co s S rk) : Call E mJ9_peek 0 0 0 [vR qv] w (qEA (rdw w (rdw w qv 0) 0) w) := by
  refine call_of (av := [(1, qv)]) (by decide +kernel) rfl (Nat.le_of_ble_eq_true rfl) ?_
  intro X hX hF hname
  show GG X 0 0 w 0 [(1, qv)] []
  refine g_aload_n (pc' := 1) hX dJ9_peek_0 rfl rfl ?_
  refine gf_J9_17 (pc' := 4) hX dJ9_peek_1 (nn_b hQ.1.1) hQ.1.2.1 rfl ?_
  refine g_iconst (pc' := 5) hX dJ9_peek_4 rfl ?_
  refine g_aaldL (pc' := 6) (n := lnw w (rdw w qv 0)) hX dJ9_peek_5 (nn_b hQ.2.1.1) (by have := hQ.2.1.2.1; omega) rfl (by have := hQ.2.1; omega) rfl ?_
  exact g_retEA hX hF rfl dJ9_peek_6 (rfl) rfl

theorem c_j_init8 (hq : 0 ≤ qv) : Call E mJ8_init 2 0 0 [vR qv] w (qEU w) := by
  refine call_of (av := [(1, qv)]) (by decide +kernel) rfl (Nat.le_of_ble_eq_true rfl) ?_
  intro X hX hF hname
  show GG X 0 0 w 0 [(1, qv)] []
  refine g_aload_n (pc' := 1) hX dJ8_init_0 rfl rfl ?_
  refine gI0EU0 (pc' := 4) hX dJ8_init_1 ml_J8_1 hq (c_j_init0 hq) (Nat.le_of_ble_eq_true rfl) (by decide) rfl ?_
  exact g_retEU hX hF dJ8_init_4 (rfl)

theorem c_j_pqInit2 (hq : (eB E : Int) ≤ qv) (hk : kdw w qv = 9) : Call E mJ9_init_2 3 1 11 [vR qv, vI 11, vR co] w (qEU (upw (upw (alw w (60 + qv.toNat) 11 (fun _ => -1)) qv 0 (szw w)) qv 2 co)) := by
  refine call_of (av := [(1, qv), (0, 11), (1, co)]) (by decide +kernel) rfl (Nat.le_of_ble_eq_true rfl) ?_
  intro X hX hF hname
  show GG X 1 11 w 0 [(1, qv), (0, 11), (1, co)] []
  refine g_aload_n (pc' := 1) hX dJ9_init_2_0 rfl rfl ?_
  refine gI0EU0 (pc' := 4) hX dJ9_init_2_1 ml_J9_7 (nn_b hq) (c_j_init8 (nn_b hq)) (Nat.le_of_ble_eq_true rfl) (by decide) rfl ?_
  refine g_iload_n (pc' := 5) hX dJ9_init_2_4 rfl rfl ?_
  refine g_iconst (pc' := 6) hX dJ9_init_2_5 rfl ?_
  refine g_icmp_ge (pc' := 9) (tgt := 17) hX dJ9_init_2_6 (by decide) rfl (by omega) (by omega) (fun h6 => ?_) (fun h6 => absurd h6 (by omega))
  refine g_aload_n (pc' := 18) hX dJ9_init_2_17 rfl rfl ?_
  refine g_iload_n (pc' := 19) hX dJ9_init_2_18 rfl rfl ?_
  refine g_fr (fun hfr hs0 => ?_)
  have hne : qv ≠ szw w := fun z => by have h1 := hfr qv (by omega); omega
  refine g_anew (pc' := 22) (60 + qv.toNat) 11 hX dJ9_init_2_19 (by omega) q307 rfl (by omega) (by omega) (by omega) rfl ?_
  refine pf_J9_17 (pc' := 25) hX dJ9_init_2_22 hq (by rw [kd_al, if_neg hne]; exact hk) rfl ?_
  skip
  refine g_aload_n (pc' := 26) hX dJ9_init_2_25 rfl rfl ?_
  refine g_aload_n (pc' := 27) hX dJ9_init_2_26 rfl rfl ?_
  refine pf_J9_21 (pc' := 30) hX hname dJ9_init_2_27 hq (by rw [kd_up, kd_al, if_neg hne]; exact hk) rfl ?_
  skip
  exact g_retEU hX hF dJ9_init_2_30 (rfl)

theorem c_j_pqInit (hq : (eB E : Int) ≤ qv) (hk : kdw w qv = 9) : Call E mJ9_init 4 1 11 [vR qv, vR co] w (qEU (upw (upw (alw w (60 + qv.toNat) 11 (fun _ => -1)) qv 0 (szw w)) qv 2 co)) := by
  refine call_of (av := [(1, qv), (1, co)]) (by decide +kernel) rfl (Nat.le_of_ble_eq_true rfl) ?_
  intro X hX hF hname
  show GG X 1 11 w 0 [(1, qv), (1, co)] []
  refine g_aload_n (pc' := 1) hX dJ9_init_0 rfl rfl ?_
  refine g_bipush (pc' := 3) hX dJ9_init_1 rfl rfl ?_
  refine g_aload_n (pc' := 4) hX dJ9_init_3 rfl rfl ?_
  refine gI2EU (pc' := 7) hX dJ9_init_4 ml_J9_3 (nn_b hq) (c_j_pqInit2 hq hk) (Nat.le_of_ble_eq_true rfl) (by decide) (by omega) rfl ?_
  exact g_retEU hX hF dJ9_init_7 (rfl)

theorem PQ.ne (hQ : PQ E w qv co s S rk) : qv ≠ rdw w qv 0 := kd_ne hQ.1.2.1 hQ.2.1.2.1 (by omega)
/-- what a queue owns -/
def qP (E : Ev) (w : Wd) (q a : Int) : Prop := a = q ∨ a = rdw w q 0
theorem c_j_clear (hQ : PQ E w qv co s S rk) : Call E mJ9_clear 0 0 0 [vR qv] w (qU (fun w' => PQ E w' qv co 0 (fun _ => False) rk ∧ rdw w' qv 0 = rdw w qv 0 ∧ Fr (fun a _ => qP E w qv a) w w')) := by
  refine call_of (av := [(1, qv)]) (by decide +kernel) rfl (Nat.le_of_ble_eq_true rfl) ?_
  intro X hX hF hname
  show GG X 0 0 w 0 [(1, qv), (9, 0), (9, 0), (9, 0)] []
  have hne := hQ.ne
  obtain ⟨⟨q1, q2, q3, q4, q5⟩, ⟨a1, a2, a3, a4, a5⟩, hPM, hHP, hNu⟩ := hQ
  have hW0 : Fr (fun a _ => qP E w qv a) w w := Fr.rf
  have hW1 := hW0.up (a := qv) (i := 3) (x := rdw w qv 3 + 1) (Or.inl rfl)
  refine g_aload_n (pc' := 1) hX dJ9_clear_0 rfl rfl ?_
  refine g_dup (pc' := 2) hX dJ9_clear_1 (vR_cat _) rfl ?_
  refine gf_J9_93 (pc' := 5) hX dJ9_clear_2 (nn_b q1) q2 rfl ?_
  refine g_iconst (pc' := 6) hX dJ9_clear_5 rfl ?_
  refine g_iadd (pc' := 7) hX dJ9_clear_6 rfl ?_
  refine pf_J9_93 (pc' := 10) hX dJ9_clear_7 q1 q2 rfl ?_
  skip
  refine g_aload_n (pc' := 11) hX dJ9_clear_10 rfl rfl ?_
  refine gf_J9_17 (pc' := 14) hX dJ9_clear_11 (nn_b q1) q2 rfl ?_
  repeat (first | rw [rd_up_ne (by omega)] | rw [rd_up_eq (by omega)])
  refine g_astore_n_1 (pc' := 15) hX dJ9_clear_14 (by decide) rfl rfl ?_
  refine g_iconst (pc' := 16) hX dJ9_clear_15 rfl ?_
  refine g_istore_n_2 (pc' := 17) hX dJ9_clear_16 (by decide) rfl rfl ?_
  refine g_aload_n (pc' := 18) hX dJ9_clear_17 rfl rfl ?_
  refine gf_J9_58 (pc' := 21) hX dJ9_clear_18 (nn_b q1) q2 rfl ?_
  first
    | rw [q3]
    | (repeat rw [rd_up_ne (by omega)]); rw [q3]
  refine g_istore_n_3 (pc' := 22) hX dJ9_clear_21 (by decide) rfl rfl ?_
  have loop : ∀ (f : Nat) (i : Int) (u : Wd), 0 ≤ i → i ≤ s → Fr (fun a _ => qP E w qv a) w u → rdw u qv 0 = rdw w qv 0 ∧ rdw u qv 2 = co → (∀ j : Int, 0 ≤ j → j < lnw w (rdw w qv 0) → rdw u (rdw w qv 0) j = if j < i then -1 else rdw w (rdw w qv 0) j) → s < i + f → GG X 0 0 u 22 [(1, qv), (1, rdw w qv 0), (0, i), (0, s)] [] := by
    intro f
    induction f with
    | zero => intro i u h0 h1 hW hu hA hf; exact absurd hf (by omega)
    | succ f ih =>
      intro i u h0 h1 hW hu hA hf
      refine g_iload_n (pc' := 23) hX dJ9_clear_22 rfl rfl ?_
      refine g_iload_n (pc' := 24) hX dJ9_clear_23 rfl rfl ?_
      refine g_icmp_ge (pc' := 27) (tgt := 37) hX dJ9_clear_24 (by decide) rfl (by omega) (by omega) (fun h24 => ?_) (fun h24 => ?_)
      · skip
        refine g_aload_n (pc' := 38) hX dJ9_clear_37 rfl rfl ?_
        refine g_iconst (pc' := 39) hX dJ9_clear_38 rfl ?_
        refine pf_J9_58 (pc' := 42) hX dJ9_clear_39 q1 (by rw [hW.kd]; exact q2) rfl ?_
        skip
        have hWF := hW.up (a := qv) (i := 1) (x := 0) (Or.inl rfl)
        have e0 : rdw (upw u qv 1 0) qv 0 = rdw w qv 0 := by rw [rd_up_ne (by omega)]; exact hu.1
        exact g_retU hX hF dJ9_clear_42 ⟨⟨⟨q1, by rw [hWF.kd]; exact q2, rd_up_eq ⟨rfl, rfl⟩, by rw [rd_up_ne (by omega)]; exact hu.2, by omega⟩, by rw [e0, hWF.kd, hWF.ln]; exact ⟨a1, a2, by omega, a4, a5⟩, PMo.zero, HPo.zero (by omega), fun j j0 j1 => by
          rw [e0] at j1 ⊢
          rw [hWF.ln] at j1
          rw [rd_up_ne (fun z => hne z.1.symm), hA j j0 j1]
          split
          · rfl
          · exact hNu j (by omega) j1⟩, e0, hWF⟩
      · skip
        refine g_aload_n (pc' := 28) hX dJ9_clear_27 rfl rfl ?_
        refine g_iload_n (pc' := 29) hX dJ9_clear_28 rfl rfl ?_
        refine g_null (pc' := 30) hX dJ9_clear_29 rfl ?_
        have hku := hW.kd (rdw w qv 0)
        have hlu := hW.ln (rdw w qv 0)
        refine g_aastL (pc' := 31) (n := lnw w (rdw w qv 0)) hX dJ9_clear_30 a1 (by omega) hlu (by omega) (Or.inl (by omega)) rfl ?_
        skip
        refine g_iinc_2 (pc' := 34) hX dJ9_clear_31 (by decide) rfl rfl ?_
        refine g_goto (tgt := 22) hX dJ9_clear_34 (by decide) ?_
        exact ih (i + 1) _ (by omega) (by omega) (hW.up (Or.inr rfl)) ⟨by rw [rd_up_ne (fun z => hne z.1)]; exact hu.1, by rw [rd_up_ne (fun z => hne z.1)]; exact hu.2⟩ (fun j j0 j1 => by
          by_cases hj : j = i
          · rw [rd_up_eq ⟨rfl, hj⟩, if_pos (by omega)]
          · rw [rd_up_ne (fun z => hj z.2), hA j j0 j1]
            (repeat' split) <;> first | rfl | omega) (by omega)
  exact loop (s.toNat + 1) 0 _ (by omega) (by omega) hW1 ⟨rd_up_ne (by omega), by rw [rd_up_ne (by omega)]; exact q4⟩ (fun j j0 j1 => by rw [rd_up_ne (fun z => hne z.1.symm), if_neg (by omega)]) (by omega)

end J5S
