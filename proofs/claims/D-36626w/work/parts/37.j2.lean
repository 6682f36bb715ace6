/-! THE LIBRARY's lists: remove, insert (by gen/spec_j2.py) -/
set_option maxRecDepth 100000
set_option maxHeartbeats 4000000
section J2S
variable {E : Ev} {w : Wd} {l n i it c v o : Int}
/-- what is left when the i-th of n is taken out; d: by how much the later ones move -/
def rmP (E : Ev) (w : Wd) (l n i : Int) (w' : Wd) : Prop := AL E w' l (n - 1) ∧ rdw w' l 1 = rdw w l 1 ∧ Gr (fun a _ => aP E w l a) w w' ∧ ∀ j, 0 ≤ j → j < n - 1 → el w' l j = if j < i then el w l j else el w l (j + 1)
def inP (E : Ev) (w : Wd) (l n i v : Int) (w' : Wd) : Prop := AL E w' l (n + 1) ∧ rdw w' l 1 = rdw w l 1 ∧ Gr (fun a _ => aP E w l a) w w' ∧ ∀ j, 0 ≤ j → j < n + 1 → el w' l j = if j < i then el w l j else if j = i then v else el w l (j - 1)
theorem rm_ok {w2 : Wd} {x : Int} (hL : AL E w l n) (hi : 0 ≤ i ∧ i < n) (he : w2.2 = w.2) (h2 : ∀ b j : Int, rdw w2 b j = if b = rdw w l 1 ∧ i ≤ j ∧ j < n - 1 then rdw w (rdw w l 1) (j + 1) else rdw (upw w l 0 x) b j) : rmP E w l n i (upw (upw w2 l 2 (n - 1)) (rdw w l 1) (n - 1) (-1)) := by
  obtain ⟨ha1, ha2, ha3, ha4⟩ := hL.arr (by omega)
  have hne : l ≠ rdw w l 1 := kd_ne hL.1.2.1 ha2 (by omega)
  have kk : ∀ b, kdw w2 b = kdw w b := fun b => by unfold kdw; rw [he]
  have ll : ∀ b, lnw w2 b = lnw w b := fun b => by unfold lnw; rw [he]
  have ss : szw w2 = szw w := by unfold szw; rw [he]
  have e1 : rdw (upw (upw w2 l 2 (n - 1)) (rdw w l 1) (n - 1) (-1)) l 1 = rdw w l 1 := by rw [rd_up_ne (fun z => hne z.1), rd_up_ne (by omega), h2, if_neg (fun z => hne z.1), rd_up_ne (by omega)]
  refine ⟨⟨⟨hL.1.1, ?_, ?_, by omega⟩, Or.inr ?_⟩, e1, ⟨by rw [sz_up, sz_up, ss]; exact Int.le_refl _, fun b _ => ⟨?_, ?_, fun j hj => ?_⟩⟩, fun j j0 j1 => ?_⟩
  · rw [kd_up, kd_up, kk]; exact hL.1.2.1
  · rw [rd_up_ne (fun z => hne z.1), rd_up_eq ⟨rfl, rfl⟩]
  · rw [e1, kd_up, kd_up, kk, ln_up, ln_up, ll]; exact ⟨ha1, ha2, by omega, ha4⟩
  · rw [kd_up, kd_up, kk]
  · rw [ln_up, ln_up, ll]
  · unfold aP at hj
    rw [rd_up_ne (fun z => hj (Or.inr ⟨z.1, by rw [z.1]; exact ha1⟩)), rd_up_ne (fun z => hj (Or.inl z.1)), h2, if_neg (fun z => hj (Or.inr ⟨z.1, by rw [z.1]; exact ha1⟩)), rd_up_ne (fun z => hj (Or.inl z.1))]
  · unfold el
    rw [e1, rd_up_ne (by omega), rd_up_ne (fun z => hne z.1.symm), h2]
    by_cases hji : j < i
    · rw [if_neg (by omega), if_pos hji, rd_up_ne (fun z => hne z.1.symm)]
    · rw [if_pos ⟨rfl, by omega, by omega⟩, if_neg hji]
theorem in_ok {w2 : Wd} {x : Int} (hL : AL E w l n) (ha : (eB E : Int) ≤ rdw w l 1 ∧ kdw w (rdw w l 1) = 60 + l.toNat ∧ n ≤ 10 ∧ lnw w (rdw w l 1) = 10) (hn : n ≤ 9) (hi : 0 ≤ i ∧ i ≤ n) (he : w2.2 = w.2) (h2 : ∀ b j : Int, rdw w2 b j = if b = rdw w l 1 ∧ i + 1 ≤ j ∧ j < n + 1 then rdw w (rdw w l 1) (j - 1) else rdw (upw w l 0 x) b j) : inP E w l n i v (upw (upw w2 (rdw w l 1) i v) l 2 (n + 1)) := by
  obtain ⟨ha1, ha2, ha3, ha4⟩ := ha
  have hne : l ≠ rdw w l 1 := kd_ne hL.1.2.1 ha2 (by omega)
  have kk : ∀ b, kdw w2 b = kdw w b := fun b => by unfold kdw; rw [he]
  have ll : ∀ b, lnw w2 b = lnw w b := fun b => by unfold lnw; rw [he]
  have ss : szw w2 = szw w := by unfold szw; rw [he]
  have hl0 := hL.1.2.2.2
  have e1 : rdw (upw (upw w2 (rdw w l 1) i v) l 2 (n + 1)) l 1 = rdw w l 1 := by rw [rd_up_ne (by omega), rd_up_ne (fun z => hne z.1), h2, if_neg (fun z => hne z.1), rd_up_ne (by omega)]
  refine ⟨⟨⟨hL.1.1, ?_, ?_, by omega⟩, Or.inr ?_⟩, e1, ⟨by rw [sz_up, sz_up, ss]; exact Int.le_refl _, fun b _ => ⟨?_, ?_, fun j hj => ?_⟩⟩, fun j j0 j1 => ?_⟩
  · rw [kd_up, kd_up, kk]; exact hL.1.2.1
  · rw [rd_up_eq ⟨rfl, rfl⟩]
  · rw [e1, kd_up, kd_up, kk, ln_up, ln_up, ll]; exact ⟨ha1, ha2, by omega, ha4⟩
  · rw [kd_up, kd_up, kk]
  · rw [ln_up, ln_up, ll]
  · unfold aP at hj
    rw [rd_up_ne (fun z => hj (Or.inl z.1)), rd_up_ne (fun z => hj (Or.inr ⟨z.1, by rw [z.1]; exact ha1⟩)), h2, if_neg (fun z => hj (Or.inr ⟨z.1, by rw [z.1]; exact ha1⟩)), rd_up_ne (fun z => hj (Or.inl z.1))]
  · unfold el
    rw [e1, rd_up_ne (fun z => hne z.1.symm)]
    by_cases hji : j < i
    · rw [if_pos hji, rd_up_ne (by omega), h2, if_neg (by omega), rd_up_ne (fun z => hne z.1.symm)]
    · rw [if_neg hji]
      by_cases hj2 : j = i
      · rw [if_pos hj2, rd_up_eq ⟨rfl, hj2⟩]
      · rw [if_neg hj2, rd_up_ne (fun z => hj2 z.2), h2, if_pos ⟨rfl, by omega, by omega⟩]
theorem c_j_fastRemove (hL : AL E w l n) (hi : 0 ≤ i ∧ i < n) (hok : ∀ j, 0 ≤ j → j < n → okr w (el w l j)) : Call E mJ2_fastRemove 2 0 0 [vR l, vR (rdw w l 1), vI i] w (qU (rmP E w l n i)) := by
  refine call_of (av := [(1, l), (1, rdw w l 1), (0, i)]) (by decide +kernel) rfl (Nat.le_of_ble_eq_true rfl) ?_
  intro X hX hF hname
  show GG X 0 0 w 0 [(1, l), (1, rdw w l 1), (0, i), (9, 0)] []
  obtain ⟨ha1, ha2, ha3, ha4⟩ := hL.arr (by omega)
  have hne : l ≠ rdw w l 1 := kd_ne hL.1.2.1 ha2 (by omega)
  refine g_aload_n (pc' := 1) hX dJ2_fastRemove_0 rfl rfl ?_
  refine g_dup (pc' := 2) hX dJ2_fastRemove_1 (vR_cat _) rfl ?_
  refine gf_J2_63 (pc' := 5) hX dJ2_fastRemove_2 hL.h0 hL.1.2.1 rfl ?_
  refine g_iconst (pc' := 6) hX dJ2_fastRemove_5 rfl ?_
  refine g_iadd (pc' := 7) hX dJ2_fastRemove_6 rfl ?_
  refine pf_J2_63 (pc' := 10) hX dJ2_fastRemove_7 hL.1.1 hL.1.2.1 rfl ?_
  skip
  refine g_aload_n (pc' := 11) hX dJ2_fastRemove_10 rfl rfl ?_
  refine gf_J2_48 (pc' := 14) hX dJ2_fastRemove_11 hL.h0 hL.1.2.1 rfl ?_
  repeat (first | rw [rd_up_ne (by omega)] | rw [rd_up_eq (by omega)])
  rw [hL.1.2.2.1]
  refine g_iconst (pc' := 15) hX dJ2_fastRemove_14 rfl ?_
  refine g_isub (pc' := 16) hX dJ2_fastRemove_15 rfl ?_
  refine g_dup (pc' := 17) hX dJ2_fastRemove_16 (vI_cat _) rfl ?_
  refine g_istore_n_3 (pc' := 18) hX dJ2_fastRemove_17 (by decide) rfl rfl ?_
  refine g_iload_n (pc' := 19) hX dJ2_fastRemove_18 rfl rfl ?_
  refine g_icmp_le (pc' := 22) (tgt := 34) hX dJ2_fastRemove_19 (by decide) rfl (by omega) (by omega) (fun h19 => ?_) (fun h19 => ?_)
  · skip
    refine g_aload_n (pc' := 35) hX dJ2_fastRemove_34 rfl rfl ?_
    refine g_aload_n (pc' := 36) hX dJ2_fastRemove_35 rfl rfl ?_
    refine g_iload_n (pc' := 37) hX dJ2_fastRemove_36 rfl rfl ?_
    refine g_dup_x1 (pc' := 38) hX dJ2_fastRemove_37 (vI_cat _) (vR_cat _) rfl ?_
    refine pf_J2_48 (pc' := 41) hX dJ2_fastRemove_38 hL.1.1 hL.1.2.1 rfl ?_
    skip
    refine g_null (pc' := 42) hX dJ2_fastRemove_41 rfl ?_
    refine g_aastL (pc' := 43) (n := 10) hX dJ2_fastRemove_42 ha1 (by show 55 ≤ kdw w (rdw w l 1); omega) ha4 (by omega) (Or.inl (by omega)) rfl ?_
    skip
    exact g_retU hX hF dJ2_fastRemove_43 (rm_ok hL hi rfl (fun b j => by first | (rw [rd_cp]; (repeat' split) <;> first | rfl | omega | (rw [rd_up_ne (fun z => hne z.1.symm)]; congr 1; omega)) | (rw [if_neg (by omega)])))
  · skip
    refine g_aload_n (pc' := 23) hX dJ2_fastRemove_22 rfl rfl ?_
    refine g_iload_n (pc' := 24) hX dJ2_fastRemove_23 rfl rfl ?_
    refine g_iconst (pc' := 25) hX dJ2_fastRemove_24 rfl ?_
    refine g_iadd (pc' := 26) hX dJ2_fastRemove_25 rfl ?_
    refine g_aload_n (pc' := 27) hX dJ2_fastRemove_26 rfl rfl ?_
    refine g_iload_n (pc' := 28) hX dJ2_fastRemove_27 rfl rfl ?_
    refine g_iload_n (pc' := 29) hX dJ2_fastRemove_28 rfl rfl ?_
    refine g_iload_n (pc' := 30) hX dJ2_fastRemove_29 rfl rfl ?_
    refine g_isub (pc' := 31) hX dJ2_fastRemove_30 rfl ?_
    refine g_arrcopy (pc' := 34) hX dJ2_fastRemove_31 q1145 q215 q214 q66 (nn_b ha1) ha1 (by rw [kd_up]; omega) (by rw [kd_up]; omega) (by omega) (by omega) (by omega) (by rw [ln_up]; omega) (by rw [ln_up]; omega) (by rw [ln_up]; omega) (fun j j0 j1 => by rw [rd_up_ne (fun z => hne z.1.symm)]; exact hok j (by omega) (by omega)) (by decide) (Nat.le_of_ble_eq_true rfl) rfl ?_
    refine g_aload_n (pc' := 35) hX dJ2_fastRemove_34 rfl rfl ?_
    refine g_aload_n (pc' := 36) hX dJ2_fastRemove_35 rfl rfl ?_
    refine g_iload_n (pc' := 37) hX dJ2_fastRemove_36 rfl rfl ?_
    refine g_dup_x1 (pc' := 38) hX dJ2_fastRemove_37 (vI_cat _) (vR_cat _) rfl ?_
    refine pf_J2_48 (pc' := 41) hX dJ2_fastRemove_38 hL.1.1 hL.1.2.1 rfl ?_
    skip
    refine g_null (pc' := 42) hX dJ2_fastRemove_41 rfl ?_
    refine g_aastL (pc' := 43) (n := 10) hX dJ2_fastRemove_42 ha1 (by show 55 ≤ kdw w (rdw w l 1); omega) ha4 (by omega) (Or.inl (by omega)) rfl ?_
    skip
    exact g_retU hX hF dJ2_fastRemove_43 (rm_ok hL hi rfl (fun b j => by first | (rw [rd_cp]; (repeat' split) <;> first | rfl | omega | (rw [rd_up_ne (fun z => hne z.1.symm)]; congr 1; omega)) | (rw [if_neg (by omega)])))

theorem c_j_remove (hL : AL E w l n) (hi : 0 ≤ i ∧ i < n) (hok : ∀ j, 0 ≤ j → j < n → okr w (el w l j)) : Call E mJ2_remove 3 0 0 [vR l, vI i] w (qA (fun r w' => r = el w l i ∧ rmP E w l n i w')) := by
  refine call_of (av := [(1, l), (0, i)]) (by decide +kernel) rfl (Nat.le_of_ble_eq_true rfl) ?_
  intro X hX hF hname
  show GG X 0 0 w 0 [(1, l), (0, i), (9, 0), (9, 0)] []
  obtain ⟨ha1, ha2, ha3, ha4⟩ := hL.arr (by omega)
  have hne : l ≠ rdw w l 1 := kd_ne hL.1.2.1 ha2 (by omega)
  refine g_iload_n (pc' := 1) hX dJ2_remove_0 rfl rfl ?_
  refine g_aload_n (pc' := 2) hX dJ2_remove_1 rfl rfl ?_
  refine gf_J2_48 (pc' := 5) hX dJ2_remove_2 hL.h0 hL.1.2.1 rfl ?_
  rw [hL.1.2.2.1]
  refine gS2E0 (pc' := 8) hX dJ2_remove_5 ml_J2_118 (c_j_chk (by omega)) (Nat.le_of_ble_eq_true rfl) (by decide) rfl ?_
  refine g_pop (pc' := 9) hX dJ2_remove_8 (vI_cat _) rfl ?_
  refine g_aload_n (pc' := 10) hX dJ2_remove_9 rfl rfl ?_
  refine gf_J2_9 (pc' := 13) hX dJ2_remove_10 hL.h0 hL.1.2.1 rfl ?_
  refine g_astore_n_2 (pc' := 14) hX dJ2_remove_13 (by decide) rfl rfl ?_
  refine g_aload_n (pc' := 15) hX dJ2_remove_14 rfl rfl ?_
  refine g_iload_n (pc' := 16) hX dJ2_remove_15 rfl rfl ?_
  refine g_aaldL (pc' := 17) hX dJ2_remove_16 (nn_b ha1) (by omega) ha4 (by omega) rfl ?_
  refine g_astore_n_3 (pc' := 18) hX dJ2_remove_17 (by decide) rfl rfl ?_
  refine g_aload_n (pc' := 19) hX dJ2_remove_18 rfl rfl ?_
  refine g_aload_n (pc' := 20) hX dJ2_remove_19 rfl rfl ?_
  refine g_iload_n (pc' := 21) hX dJ2_remove_20 rfl rfl ?_
  refine gV2U0 (pc' := 24) hX dJ2_remove_21 ml_J2_144 gc_J2 hL.h0 hL.1.2.1 (c_j_fastRemove hL hi hok) (Nat.le_of_ble_eq_true rfl) (by decide) rfl (fun w21 q21 => ?_)
  refine g_aload_n (pc' := 25) hX dJ2_remove_24 rfl rfl ?_
  exact g_retA hX hF rfl dJ2_remove_25 ⟨rfl, q21⟩

theorem c_j_rangeAdd (hL : AL E w l n) (hn : n ≤ 10) (hi : 0 ≤ i ∧ i ≤ n) : Call E mJ2_rangeCheckForAdd 0 0 0 [vR l, vI i] w (qEU w) := by
  refine call_of (av := [(1, l), (0, i)]) (by decide +kernel) rfl (Nat.le_of_ble_eq_true rfl) ?_
  intro X hX hF hname
  show GG X 0 0 w 0 [(1, l), (0, i)] []
  refine g_iload_n (pc' := 1) hX dJ2_rangeCheckForAdd_0 rfl rfl ?_
  refine g_aload_n (pc' := 2) hX dJ2_rangeCheckForAdd_1 rfl rfl ?_
  refine gf_J2_48 (pc' := 5) hX dJ2_rangeCheckForAdd_2 hL.h0 hL.1.2.1 rfl ?_
  rw [hL.1.2.2.1]
  refine g_icmp_gt (pc' := 8) (tgt := 12) hX dJ2_rangeCheckForAdd_5 (by decide) rfl (by omega) (by omega) (fun h5 => absurd h5 (by omega)) (fun h5 => ?_)
  refine g_iload_n (pc' := 9) hX dJ2_rangeCheckForAdd_8 rfl rfl ?_
  refine g_if_ge (pc' := 12) (tgt := 25) hX dJ2_rangeCheckForAdd_9 (by decide) rfl (by omega) (fun h9 => ?_) (fun h9 => absurd h9 (by omega))
  exact g_retEU hX hF dJ2_rangeCheckForAdd_25 (rfl)

theorem c_j_insert (hL : AL E w l n) (ha : (eB E : Int) ≤ rdw w l 1 ∧ kdw w (rdw w l 1) = 60 + l.toNat ∧ n ≤ 10 ∧ lnw w (rdw w l 1) = 10) (hn : n ≤ 9) (hi : 0 ≤ i ∧ i ≤ n) (hv : okr w v) (hok : ∀ j, 0 ≤ j → j < n → okr w (el w l j)) : Call E mJ2_add_3 2 0 0 [vR l, vI i, vR v] w (qU (inP E w l n i v)) := by
  refine call_of (av := [(1, l), (0, i), (1, v)]) (by decide +kernel) rfl (Nat.le_of_ble_eq_true rfl) ?_
  intro X hX hF hname
  show GG X 0 0 w 0 [(1, l), (0, i), (1, v), (9, 0), (9, 0)] []
  obtain ⟨ha1, ha2, ha3, ha4⟩ := ha
  have hne : l ≠ rdw w l 1 := kd_ne hL.1.2.1 ha2 (by omega)
  have hl0 := hL.1.2.2.2
  refine g_aload_n (pc' := 1) hX dJ2_add_3_0 rfl rfl ?_
  refine g_iload_n (pc' := 2) hX dJ2_add_3_1 rfl rfl ?_
  refine gV1EU0 (pc' := 5) hX dJ2_add_3_2 ml_J2_135 gc_J2 hL.h0 hL.1.2.1 (c_j_rangeAdd hL (by omega) hi) (Nat.le_of_ble_eq_true rfl) (by decide) rfl ?_
  refine g_aload_n (pc' := 6) hX dJ2_add_3_5 rfl rfl ?_
  refine g_dup (pc' := 7) hX dJ2_add_3_6 (vR_cat _) rfl ?_
  refine gf_J2_63 (pc' := 10) hX dJ2_add_3_7 hL.h0 hL.1.2.1 rfl ?_
  refine g_iconst (pc' := 11) hX dJ2_add_3_10 rfl ?_
  refine g_iadd (pc' := 12) hX dJ2_add_3_11 rfl ?_
  refine pf_J2_63 (pc' := 15) hX dJ2_add_3_12 hL.1.1 hL.1.2.1 rfl ?_
  skip
  refine g_aload_n (pc' := 16) hX dJ2_add_3_15 rfl rfl ?_
  refine gf_J2_48 (pc' := 19) hX dJ2_add_3_16 hL.h0 hL.1.2.1 rfl ?_
  repeat (first | rw [rd_up_ne (by omega)] | rw [rd_up_eq (by omega)])
  rw [hL.1.2.2.1]
  refine g_dup (pc' := 20) hX dJ2_add_3_19 (vI_cat _) rfl ?_
  refine g_istore_n_3 (pc' := 21) hX dJ2_add_3_20 (by decide) rfl rfl ?_
  refine g_aload_n (pc' := 22) hX dJ2_add_3_21 rfl rfl ?_
  refine gf_J2_9 (pc' := 25) hX dJ2_add_3_22 hL.h0 hL.1.2.1 rfl ?_
  repeat (first | rw [rd_up_ne (by omega)] | rw [rd_up_eq (by omega)])
  refine g_dup (pc' := 26) hX dJ2_add_3_25 (vR_cat _) rfl ?_
  refine g_astore_4 (pc' := 28) hX dJ2_add_3_26 (by decide) rfl rfl ?_
  refine g_alenL (n := 10) (pc' := 29) hX dJ2_add_3_28 (nn_b ha1) (by rw [kd_up]; omega) ha4 (by omega) rfl ?_
  refine g_icmp_ne (pc' := 32) (tgt := 38) hX dJ2_add_3_29 (by decide) rfl (by omega) (by omega) (fun h29 => ?_) (fun h29 => absurd h29 (by omega))
  refine g_aload (pc' := 40) hX dJ2_add_3_38 rfl rfl ?_
  refine g_iload_n (pc' := 41) hX dJ2_add_3_40 rfl rfl ?_
  refine g_aload (pc' := 43) hX dJ2_add_3_41 rfl rfl ?_
  refine g_iload_n (pc' := 44) hX dJ2_add_3_43 rfl rfl ?_
  refine g_iconst (pc' := 45) hX dJ2_add_3_44 rfl ?_
  refine g_iadd (pc' := 46) hX dJ2_add_3_45 rfl ?_
  refine g_iload_n (pc' := 47) hX dJ2_add_3_46 rfl rfl ?_
  refine g_iload_n (pc' := 48) hX dJ2_add_3_47 rfl rfl ?_
  refine g_isub (pc' := 49) hX dJ2_add_3_48 rfl ?_
  refine g_arrcopy (pc' := 52) hX dJ2_add_3_49 q1145 q215 q214 q66 (nn_b ha1) ha1 (by rw [kd_up]; omega) (by rw [kd_up]; omega) (by omega) (by omega) (by omega) (by rw [ln_up]; omega) (by rw [ln_up]; omega) (by rw [ln_up]; omega) (fun j j0 j1 => by rw [rd_up_ne (fun z => hne z.1.symm)]; exact hok j (by omega) (by omega)) (by decide) (Nat.le_of_ble_eq_true rfl) rfl ?_
  refine g_aload (pc' := 54) hX dJ2_add_3_52 rfl rfl ?_
  refine g_iload_n (pc' := 55) hX dJ2_add_3_54 rfl rfl ?_
  refine g_aload_n (pc' := 56) hX dJ2_add_3_55 rfl rfl ?_
  refine g_aastL (pc' := 57) (n := 10) hX dJ2_add_3_56 ha1 (by show 55 ≤ kdw w (rdw w l 1); omega) ha4 (by omega) hv rfl ?_
  skip
  refine g_aload_n (pc' := 58) hX dJ2_add_3_57 rfl rfl ?_
  refine g_iload_n (pc' := 59) hX dJ2_add_3_58 rfl rfl ?_
  refine g_iconst (pc' := 60) hX dJ2_add_3_59 rfl ?_
  refine g_iadd (pc' := 61) hX dJ2_add_3_60 rfl ?_
  refine pf_J2_48 (pc' := 64) hX dJ2_add_3_61 hL.1.1 hL.1.2.1 rfl ?_
  skip
  exact g_retU hX hF dJ2_add_3_64 (in_ok hL ⟨ha1, ha2, ha3, ha4⟩ hn hi rfl (fun b j => by rw [rd_cp]; (repeat' split) <;> first | rfl | omega | (rw [rd_up_ne (fun z => hne z.1.symm)]; congr 1; omega)))

end J2S
