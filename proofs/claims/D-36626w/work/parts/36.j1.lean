/-! THE LIBRARY's lists, iterators, Integers (by gen/spec_j1.py) -/
set_option maxRecDepth 100000
set_option maxHeartbeats 4000000
theorem nn_b {a : Int} {n : Nat} (h : (n : Int) ≤ a) : 0 ≤ a := by omega
section J1S
variable {E : Ev} {w : Wd} {l n i it c v o : Int}
theorem pf_J1_7 {X : Cx} {cc : ByteArray} {nL d bc bs pc pc' : Nat} {lv : List (Nat × Int)} {st : List Value} {a x : Int} (h : Ok X E "java/util/AbstractList" cc nL d) (dg : decode cc pc = .ok (.putfield 7, 3)) (ha : (eB E : Int) ≤ a) (hkd : kdw w a = 7) (hp : pc + 3 = pc') (K : GG X bc bs (upw w a 0 x) pc' lv st) : GG X bc bs w pc lv (vI x :: vR a :: st) := g_put 0 h dg gc_J2 (by decide) q122 (Or.inl rfl) rfl trivial ha hkd hp K
theorem c_j_compare (hi : -2147483648 ≤ i ∧ i ≤ 2147483647) (hn : -2147483648 ≤ n ∧ n ≤ 2147483647) : Call E mJ4_compare 0 0 0 [vI i, vI n] w (qE (if i < n then -1 else if i = n then 0 else 1) w) := by
  refine call_of (av := [(0, i), (0, n)]) (by decide +kernel) rfl (Nat.le_of_ble_eq_true rfl) ?_
  intro X hX hF hname
  show GG X 0 0 w 0 [(0, i), (0, n)] []
  refine g_iload_n (pc' := 1) hX dJ4_compare_0 rfl rfl ?_
  refine g_iload_n (pc' := 2) hX dJ4_compare_1 rfl rfl ?_
  refine g_icmp_ge (pc' := 5) (tgt := 9) hX dJ4_compare_2 (by decide) rfl (by omega) (by omega) (fun h2 => ?_) (fun h2 => ?_)
  · skip
    refine g_iload_n (pc' := 10) hX dJ4_compare_9 rfl rfl ?_
    refine g_iload_n (pc' := 11) hX dJ4_compare_10 rfl rfl ?_
    refine g_icmp_ne (pc' := 14) (tgt := 18) hX dJ4_compare_11 (by decide) rfl (by omega) (by omega) (fun h11 => ?_) (fun h11 => ?_)
    · skip
      refine g_iconst (pc' := 19) hX dJ4_compare_18 rfl ?_
      exact g_retE hX hF dJ4_compare_19 (by (repeat' split) <;> omega) rfl
    · skip
      refine g_iconst (pc' := 15) hX dJ4_compare_14 rfl ?_
      refine g_goto (tgt := 19) hX dJ4_compare_15 (by decide) ?_
      exact g_retE hX hF dJ4_compare_19 (by (repeat' split) <;> omega) rfl
  · skip
    refine g_iconst (pc' := 6) hX dJ4_compare_5 rfl ?_
    refine g_goto (tgt := 19) hX dJ4_compare_6 (by decide) ?_
    exact g_retE hX hF dJ4_compare_19 (by (repeat' split) <;> omega) rfl

theorem c_j_chk0 (hi : 0 ≤ i ∧ i < n ∧ n ≤ 2147483647) : Call E mJ18_checkIndex 0 0 0 [vI i, vI n, vR v] w (qE i w) := by
  refine call_of (av := [(0, i), (0, n), (1, v)]) (by decide +kernel) rfl (Nat.le_of_ble_eq_true rfl) ?_
  intro X hX hF hname
  show GG X 0 0 w 0 [(0, i), (0, n), (1, v)] []
  refine g_iload_n (pc' := 1) hX dJ18_checkIndex_0 rfl rfl ?_
  refine g_if_lt (pc' := 4) (tgt := 9) hX dJ18_checkIndex_1 (by decide) rfl (by omega) (fun h1 => absurd h1 (by omega)) (fun h1 => ?_)
  refine g_iload_n (pc' := 5) hX dJ18_checkIndex_4 rfl rfl ?_
  refine g_iload_n (pc' := 6) hX dJ18_checkIndex_5 rfl rfl ?_
  refine g_icmp_lt (pc' := 9) (tgt := 16) hX dJ18_checkIndex_6 (by decide) rfl (by omega) (by omega) (fun h6 => ?_) (fun h6 => absurd h6 (by omega))
  refine g_iload_n (pc' := 17) hX dJ18_checkIndex_16 rfl rfl ?_
  exact g_retE hX hF dJ18_checkIndex_17 (rfl) rfl

theorem c_j_chk (hi : 0 ≤ i ∧ i < n ∧ n ≤ 2147483647) : Call E mJ17_checkIndex 1 0 0 [vI i, vI n] w (qE i w) := by
  refine call_of (av := [(0, i), (0, n)]) (by decide +kernel) rfl (Nat.le_of_ble_eq_true rfl) ?_
  intro X hX hF hname
  show GG X 0 0 w 0 [(0, i), (0, n)] []
  refine g_iload_n (pc' := 1) hX dJ17_checkIndex_0 rfl rfl ?_
  refine g_iload_n (pc' := 2) hX dJ17_checkIndex_1 rfl rfl ?_
  refine g_null (pc' := 3) hX dJ17_checkIndex_2 rfl ?_
  refine gS3E0 (pc' := 6) hX dJ17_checkIndex_3 ml_J17_105 (c_j_chk0 hi) (Nat.le_of_ble_eq_true rfl) (by decide) rfl ?_
  exact g_retE hX hF dJ17_checkIndex_6 (rfl) rfl

theorem c_j_init0 (hl : 0 ≤ l) : Call E mJ0_init 1 0 0 [vR l] w (qEU w) := by
  refine call_of (av := [(1, l)]) (by decide +kernel) rfl (Nat.le_of_ble_eq_true rfl) ?_
  intro X hX hF hname
  show GG X 0 0 w 0 [(1, l)] []
  refine g_aload_n (pc' := 1) hX dJ0_init_0 rfl rfl ?_
  refine g_objInit (pc' := 4) hX dJ0_init_1 q115 q99 q100 hl (by decide) (Nat.le_of_ble_eq_true rfl) rfl ?_
  exact g_retEU hX hF dJ0_init_4 (rfl)

theorem c_j_init1 (hl : (eB E : Int) ≤ l) (hk : kdw w l = 7) : Call E mJ1_init 2 0 0 [vR l] w (qEU (upw w l 0 0)) := by
  refine call_of (av := [(1, l)]) (by decide +kernel) rfl (Nat.le_of_ble_eq_true rfl) ?_
  intro X hX hF hname
  show GG X 0 0 w 0 [(1, l)] []
  refine g_aload_n (pc' := 1) hX dJ1_init_0 rfl rfl ?_
  refine gI0EU0 (pc' := 4) hX dJ1_init_1 ml_J1_1 (nn_b hl) (c_j_init0 (nn_b hl)) (Nat.le_of_ble_eq_true rfl) (by decide) rfl ?_
  refine g_aload_n (pc' := 5) hX dJ1_init_4 rfl rfl ?_
  refine g_iconst (pc' := 6) hX dJ1_init_5 rfl ?_
  refine pf_J1_7 (pc' := 9) hX dJ1_init_6 hl hk rfl ?_
  exact g_retEU hX hF dJ1_init_9 rfl
theorem c_j_initL (hl : (eB E : Int) ≤ l) (hk : kdw w l = 7) : Call E mJ2_init 3 0 0 [vR l] w (qEU (upw (upw w l 0 0) l 1 (eC E : Int))) := by
  refine call_of (av := [(1, l)]) (by decide +kernel) rfl (Nat.le_of_ble_eq_true rfl) ?_
  intro X hX hF hname
  show GG X 0 0 w 0 [(1, l)] []
  refine g_aload_n (pc' := 1) hX dJ2_init_0 rfl rfl ?_
  refine gI0EU0 (pc' := 4) hX dJ2_init_1 ml_J2_1 (nn_b hl) (c_j_init1 hl hk) (Nat.le_of_ble_eq_true rfl) (by decide) rfl ?_
  refine g_aload_n (pc' := 5) hX dJ2_init_4 rfl rfl ?_
  refine g_gets (pc' := 8) (C := "java/util/ArrayList") (n := "DEFAULTCAPACITY_EMPTY_ELEMENTDATA") (ds := "[Ljava/lang/Object;") (ref := "[Ljava/lang/Object;") (v := .ref (eC E)) hX dJ2_init_5 (fun _ _ z => z.1) q116 rfl ?_
  rw [← vR_nat]
  refine pf_J2_9 (pc' := 11) hX dJ2_init_8 hl hk rfl ?_
  skip
  exact g_retEU hX hF dJ2_init_11 (rfl)

theorem c_j_elem (hL : AL E w l n) (hi : 0 ≤ i ∧ i < n) : Call E mJ2_elementData 0 0 0 [vR l, vI i] w (qEA (el w l i) w) := by
  refine call_of (av := [(1, l), (0, i)]) (by decide +kernel) rfl (Nat.le_of_ble_eq_true rfl) ?_
  intro X hX hF hname
  show GG X 0 0 w 0 [(1, l), (0, i)] []
  obtain ⟨ha1, ha2, ha3, ha4⟩ := hL.arr (by omega)
  refine g_aload_n (pc' := 1) hX dJ2_elementData_0 rfl rfl ?_
  refine gf_J2_9 (pc' := 4) hX dJ2_elementData_1 hL.h0 hL.1.2.1 rfl ?_
  refine g_iload_n (pc' := 5) hX dJ2_elementData_4 rfl rfl ?_
  refine g_aaldL (pc' := 6) hX dJ2_elementData_5 (nn_b ha1) (by omega) ha4 (by omega) rfl ?_
  exact g_retEA hX hF rfl dJ2_elementData_6 (rfl) rfl

theorem c_j_get (hL : AL E w l n) (hi : 0 ≤ i ∧ i < n) : Call E mJ2_get 2 0 0 [vR l, vI i] w (qEA (el w l i) w) := by
  refine call_of (av := [(1, l), (0, i)]) (by decide +kernel) rfl (Nat.le_of_ble_eq_true rfl) ?_
  intro X hX hF hname
  show GG X 0 0 w 0 [(1, l), (0, i)] []
  obtain ⟨ha1, ha2, ha3, ha4⟩ := hL.arr (by omega)
  refine g_iload_n (pc' := 1) hX dJ2_get_0 rfl rfl ?_
  refine g_aload_n (pc' := 2) hX dJ2_get_1 rfl rfl ?_
  refine gf_J2_48 (pc' := 5) hX dJ2_get_2 hL.h0 hL.1.2.1 rfl ?_
  rw [hL.1.2.2.1]
  refine gS2E0 (pc' := 8) hX dJ2_get_5 ml_J2_118 (c_j_chk (by omega)) (Nat.le_of_ble_eq_true rfl) (by decide) rfl ?_
  refine g_pop (pc' := 9) hX dJ2_get_8 (vI_cat _) rfl ?_
  refine g_aload_n (pc' := 10) hX dJ2_get_9 rfl rfl ?_
  refine g_iload_n (pc' := 11) hX dJ2_get_10 rfl rfl ?_
  refine gV1EA0 (pc' := 14) hX dJ2_get_11 ml_J2_123 gc_J2 hL.h0 hL.1.2.1 (c_j_elem hL hi) (Nat.le_of_ble_eq_true rfl) (by decide) rfl ?_
  exact g_retEA hX hF rfl dJ2_get_14 (rfl) rfl

theorem c_j_set (hL : AL E w l n) (hi : 0 ≤ i ∧ i < n) (hv : okr w v) : Call E mJ2_set 2 0 0 [vR l, vI i, vR v] w (qEA (el w l i) (upw w (rdw w l 1) i v)) := by
  refine call_of (av := [(1, l), (0, i), (1, v)]) (by decide +kernel) rfl (Nat.le_of_ble_eq_true rfl) ?_
  intro X hX hF hname
  show GG X 0 0 w 0 [(1, l), (0, i), (1, v), (9, 0)] []
  obtain ⟨ha1, ha2, ha3, ha4⟩ := hL.arr (by omega)
  refine g_iload_n (pc' := 1) hX dJ2_set_0 rfl rfl ?_
  refine g_aload_n (pc' := 2) hX dJ2_set_1 rfl rfl ?_
  refine gf_J2_48 (pc' := 5) hX dJ2_set_2 hL.h0 hL.1.2.1 rfl ?_
  rw [hL.1.2.2.1]
  refine gS2E0 (pc' := 8) hX dJ2_set_5 ml_J2_118 (c_j_chk (by omega)) (Nat.le_of_ble_eq_true rfl) (by decide) rfl ?_
  refine g_pop (pc' := 9) hX dJ2_set_8 (vI_cat _) rfl ?_
  refine g_aload_n (pc' := 10) hX dJ2_set_9 rfl rfl ?_
  refine g_iload_n (pc' := 11) hX dJ2_set_10 rfl rfl ?_
  refine gV1EA0 (pc' := 14) hX dJ2_set_11 ml_J2_123 gc_J2 hL.h0 hL.1.2.1 (c_j_elem hL hi) (Nat.le_of_ble_eq_true rfl) (by decide) rfl ?_
  refine g_astore_n_3 (pc' := 15) hX dJ2_set_14 (by decide) rfl rfl ?_
  refine g_aload_n (pc' := 16) hX dJ2_set_15 rfl rfl ?_
  refine gf_J2_9 (pc' := 19) hX dJ2_set_16 hL.h0 hL.1.2.1 rfl ?_
  refine g_iload_n (pc' := 20) hX dJ2_set_19 rfl rfl ?_
  refine g_aload_n (pc' := 21) hX dJ2_set_20 rfl rfl ?_
  refine g_aastL (pc' := 22) hX dJ2_set_21 ha1 (by omega) ha4 (by omega) hv rfl ?_
  skip
  refine g_aload_n (pc' := 23) hX dJ2_set_22 rfl rfl ?_
  exact g_retEA hX hF rfl dJ2_set_23 (rfl) rfl

theorem c_j_grow2 (hO : OW E w) (hL : AL E w l 0) (he : rdw w l 1 = (eC E : Int)) : Call E mJ2_grow_2 1 1 10 [vR l, vI 1] w (qEA (szw w) (upw (alw w (60 + l.toNat) 10 (fun _ => -1)) l 1 (szw w))) := by
  refine call_of (av := [(1, l), (0, 1)]) (by decide +kernel) rfl (Nat.le_of_ble_eq_true rfl) ?_
  intro X hX hF hname
  show GG X 1 10 w 0 [(1, l), (0, 1), (9, 0), (9, 0)] []
  refine g_aload_n (pc' := 1) hX dJ2_grow_2_0 rfl rfl ?_
  refine gf_J2_9 (pc' := 4) hX dJ2_grow_2_1 hL.h0 hL.1.2.1 rfl ?_
  rw [he]
  refine g_alenL (pc' := 5) hX dJ2_grow_2_4 (by omega) (by rw [hO.1.1.2.1]; decide) hO.1.1.2.2 (by omega) rfl ?_
  refine g_istore_n_2 (pc' := 6) hX dJ2_grow_2_5 (by decide) rfl rfl ?_
  refine g_iload_n (pc' := 7) hX dJ2_grow_2_6 rfl rfl ?_
  refine g_if_gt (pc' := 10) (tgt := 20) hX dJ2_grow_2_7 (by decide) rfl (by omega) (fun h7 => absurd h7 (by omega)) (fun h7 => ?_)
  refine g_aload_n (pc' := 11) hX dJ2_grow_2_10 rfl rfl ?_
  refine gf_J2_9 (pc' := 14) hX dJ2_grow_2_11 hL.h0 hL.1.2.1 rfl ?_
  rw [he]
  refine g_gets (pc' := 17) (C := "java/util/ArrayList") (n := "DEFAULTCAPACITY_EMPTY_ELEMENTDATA") (ds := "[Ljava/lang/Object;") (ref := "[Ljava/lang/Object;") (v := .ref (eC E)) hX dJ2_grow_2_14 (fun _ _ z => z.1) q116 rfl ?_
  rw [← vR_nat]
  refine g_acmp_eq (pc' := 20) (tgt := 45) hX dJ2_grow_2_17 (by decide) rfl (by omega) (by omega) (fun h17 => ?_) (fun h17 => absurd rfl h17)
  refine g_aload_n (pc' := 46) hX dJ2_grow_2_45 rfl rfl ?_
  refine g_bipush (pc' := 48) hX dJ2_grow_2_46 rfl rfl ?_
  refine g_iload_n (pc' := 49) hX dJ2_grow_2_48 rfl rfl ?_
  refine g_mmax (pc' := 52) hX dJ2_grow_2_49 q216 q173 q64 q174 (by omega) (by omega) (by omega) (Nat.le_of_ble_eq_true rfl) rfl ?_
  rw [if_neg (by omega)]
  refine g_fr (fun hfr hs0 => ?_)
  refine g_anew (pc' := 55) (60 + l.toNat) 10 hX dJ2_grow_2_52 (by omega) q217 rfl (by omega) (by omega) (by omega) rfl ?_
  have hne : l ≠ szw w := fun z => by have h1 := hfr l (by omega); have h2 := hL.1.2.1; omega
  refine g_dup_x1 (pc' := 56) hX dJ2_grow_2_55 (vR_cat _) (vR_cat _) rfl ?_
  refine pf_J2_9 (pc' := 59) hX dJ2_grow_2_56 hL.1.1 (by rw [kd_al, if_neg hne]; exact hL.1.2.1) rfl ?_
  skip
  exact g_retEA hX hF rfl dJ2_grow_2_59 (rfl) rfl

theorem c_j_grow (hO : OW E w) (hL : AL E w l 0) (he : rdw w l 1 = (eC E : Int)) : Call E mJ2_grow 2 1 10 [vR l] w (qEA (szw w) (upw (alw w (60 + l.toNat) 10 (fun _ => -1)) l 1 (szw w))) := by
  refine call_of (av := [(1, l)]) (by decide +kernel) rfl (Nat.le_of_ble_eq_true rfl) ?_
  intro X hX hF hname
  show GG X 1 10 w 0 [(1, l)] []
  refine g_aload_n (pc' := 1) hX dJ2_grow_0 rfl rfl ?_
  refine g_aload_n (pc' := 2) hX dJ2_grow_1 rfl rfl ?_
  refine gf_J2_48 (pc' := 5) hX dJ2_grow_2 hL.h0 hL.1.2.1 rfl ?_
  rw [hL.1.2.2.1]
  refine g_iconst (pc' := 6) hX dJ2_grow_5 rfl ?_
  refine g_iadd (pc' := 7) hX dJ2_grow_6 rfl ?_
  refine gV1EA (pc' := 10) hX dJ2_grow_7 ml_J2_69 gc_J2 hL.h0 hL.1.2.1 (c_j_grow2 hO hL he) (Nat.le_of_ble_eq_true rfl) (by decide) (by omega) rfl ?_
  exact g_retEA hX hF rfl dJ2_grow_10 (rfl) rfl

theorem AL.cap (hL : AL E w l n) (hO : OW E w) (hn : 0 < n ∨ rdw w l 1 ≠ (eC E : Int)) : (eB E : Int) ≤ rdw w l 1 ∧ kdw w (rdw w l 1) = 60 + l.toNat ∧ n ≤ 10 ∧ lnw w (rdw w l 1) = 10 := by
  rcases hL.2 with h | h
  · rcases hn with z | z
    · omega
    · exact absurd h.1 z
  · exact h
/-- what add leaves -/
def addP (E : Ev) (w : Wd) (l n v : Int) (w' : Wd) : Prop := AL E w' l (n + 1) ∧ Gr (fun a _ => aP E w l a) w w' ∧ (∀ i, 0 ≤ i → i < n → el w' l i = el w l i) ∧ el w' l n = v ∧ (rdw w' l 1 = rdw w l 1 ∨ kdw w (rdw w' l 1) = 0)
theorem okr_al {k : Nat} {m x : Int} {f : Int → Int} (hfr : FRs w) (h : okr w x) : okr (alw w k m f) x := by
  rcases h with h | h
  · exact Or.inl h
  · have hne : x ≠ szw w := fun z => by have h1 := hfr x (by omega); omega
    exact Or.inr (by rw [kd_al, if_neg hne]; exact h)
/-- an element put behind, where there is room -/
theorem add_ok {m : Int} (hL : AL E w l n) (ha : (eB E : Int) ≤ rdw w l 1 ∧ kdw w (rdw w l 1) = 60 + l.toNat ∧ n ≤ 10 ∧ lnw w (rdw w l 1) = 10) (hn : n ≤ 9) : addP E w l n v (upw (upw w (rdw w l 1) n v) l 2 (n + 1)) := by
  have hne : l ≠ rdw w l 1 := fun z => by have h1 := ha.2.1; rw [← z, hL.1.2.1] at h1; omega
  have e1 : rdw (upw (upw w (rdw w l 1) n v) l 2 (n + 1)) l 1 = rdw w l 1 := by rw [rd_up_ne (by omega), rd_up_ne (fun z => hne z.1)]
  refine ⟨⟨⟨hL.1.1, hL.1.2.1, rd_up_eq ⟨rfl, rfl⟩, by have := hL.1.2.2.2; omega⟩, Or.inr ?_⟩, (Gr.rf.up (Or.inr ⟨rfl, ha.1⟩)).up (Or.inl rfl), fun i i0 i1 => ?_, ?_, Or.inl e1⟩
  · rw [e1]; exact ⟨ha.1, ha.2.1, by omega, ha.2.2.2⟩
  · unfold el
    rw [e1, rd_up_ne (fun z => hne z.1.symm), rd_up_ne (by omega)]
  · unfold el
    rw [e1, rd_up_ne (fun z => hne z.1.symm), rd_up_eq ⟨rfl, rfl⟩]
/-- the same with a new array -/
theorem add_new (hO : OW E w) (hL : AL E w l 0) (he : rdw w l 1 = (eC E : Int)) (hfr : FRs w) (hsz : (eB E : Int) ≤ szw w) : addP E w l 0 v (upw (upw (upw (alw w (60 + l.toNat) 10 (fun _ => -1)) l 1 (szw w)) (szw w) 0 v) l 2 (0 + 1)) := by
  have hne : l ≠ szw w := fun z => by have h1 := hfr l (by omega); have h2 := hL.1.2.1; omega
  have hG : Gr (fun a _ => aP E w l a) w (upw (alw w (60 + l.toNat) 10 (fun _ => -1)) l 1 (szw w)) := (Gr.rf.al hfr).up (Or.inl rfl)
  have hk : kdw w (szw w) = 0 := hfr _ (Int.le_refl _)
  have e1 : rdw (upw (upw (upw (alw w (60 + l.toNat) 10 (fun _ => -1)) l 1 (szw w)) (szw w) 0 v) l 2 (0 + 1)) l 1 = szw w := by rw [rd_up_ne (by omega), rd_up_ne (fun z => hne z.1), rd_up_eq ⟨rfl, rfl⟩]
  refine ⟨⟨⟨hL.1.1, ?_, rd_up_eq ⟨rfl, rfl⟩, by omega⟩, Or.inr ?_⟩, (hG.upN hk).up (Or.inl rfl), fun i i0 i1 => absurd i1 (by omega), ?_, Or.inr (by rw [e1]; exact hk)⟩
  · rw [kd_up, kd_up, kd_up, kd_al, if_neg hne]; exact hL.1.2.1
  · rw [e1]
    exact ⟨hsz, by rw [kd_up, kd_up, kd_up, kd_al, if_pos rfl], by omega, by rw [ln_up, ln_up, ln_up, ln_al, if_pos rfl]⟩
  · unfold el
    rw [e1, rd_up_ne (fun z => hne z.1.symm), rd_up_eq ⟨rfl, rfl⟩]
theorem c_j_add2 (hO : OW E w) (hL : AL E w l n) (hn : n ≤ 9) (hv : okr w v) : Call E mJ2_add_2 3 1 10 [vR l, vR v, vR (rdw w l 1), vI n] w (qU (addP E w l n v)) := by
  refine call_of (av := [(1, l), (1, v), (1, rdw w l 1), (0, n)]) (by decide +kernel) rfl (Nat.le_of_ble_eq_true rfl) ?_
  intro X hX hF hname
  show GG X 1 10 w 0 [(1, l), (1, v), (1, rdw w l 1), (0, n)] []
  refine g_fr (fun hfr hs0 => ?_)
  refine g_szB hX (fun hszB => ?_)
  have hne : l ≠ szw w := fun z => by have h1 := hfr l (by omega); have h2 := hL.1.2.1; omega
  have hl0 := hL.1.2.2.2
  refine g_iload_n (pc' := 1) hX dJ2_add_2_0 rfl rfl ?_
  refine g_aload_n (pc' := 2) hX dJ2_add_2_1 rfl rfl ?_
  by_cases he : rdw w l 1 = (eC E : Int)
  · have hn0 : n = 0 := by
      rcases hL.2 with h | h
      · exact h.2
      · have := hO.1.1.1; omega
    subst hn0
    refine g_alenL (pc' := 3) (n := 0) hX dJ2_add_2_2 (by omega) (by rw [he, hO.1.1.2.1]; omega) (by rw [he]; exact hO.1.1.2.2) (by omega) rfl ?_
    refine g_icmp_ne (pc' := 6) (tgt := 11) hX dJ2_add_2_3 (by decide) rfl (by omega) (by omega) (fun h3 => absurd rfl h3) (fun h3 => ?_)
    refine g_aload_n (pc' := 7) hX dJ2_add_2_6 rfl rfl ?_
    refine gV0EA (pc' := 10) hX dJ2_add_2_7 ml_J2_129 gc_J2 hL.h0 hL.1.2.1 (c_j_grow hO hL he) (Nat.le_of_ble_eq_true rfl) (by decide) (by omega) rfl ?_
    refine g_astore_n_2 (pc' := 11) hX dJ2_add_2_10 (by decide) rfl rfl ?_
    refine g_aload_n (pc' := 12) hX dJ2_add_2_11 rfl rfl ?_
    refine g_iload_n (pc' := 13) hX dJ2_add_2_12 rfl rfl ?_
    refine g_aload_n (pc' := 14) hX dJ2_add_2_13 rfl rfl ?_
    refine g_aastL (pc' := 15) hX dJ2_add_2_14 hszB (by rw [kd_up, kd_al, if_pos rfl]; omega) (n := 10) (by rw [ln_up, ln_al, if_pos rfl]) (by omega) (okr_al (f := fun _ => -1) hfr hv) rfl ?_
    refine g_aload_n (pc' := 16) hX dJ2_add_2_15 rfl rfl ?_
    refine g_iload_n (pc' := 17) hX dJ2_add_2_16 rfl rfl ?_
    refine g_iconst (pc' := 18) hX dJ2_add_2_17 rfl ?_
    refine g_iadd (pc' := 19) hX dJ2_add_2_18 rfl ?_
    refine pf_J2_48 (pc' := 22) hX dJ2_add_2_19 hL.1.1 (by rw [kd_up, kd_up, kd_al, if_neg hne]; exact hL.1.2.1) rfl ?_
    exact g_retU hX hF dJ2_add_2_22 (add_new hO hL he hfr hszB)
  · obtain ⟨ha1, ha2, ha3, ha4⟩ := hL.cap hO (Or.inr he)
    refine g_alenL (pc' := 3) hX dJ2_add_2_2 (nn_b ha1) (by omega) ha4 (by omega) rfl ?_
    refine g_icmp_ne (pc' := 6) (tgt := 11) hX dJ2_add_2_3 (by decide) rfl (by omega) (by omega) (fun h3 => ?_) (fun h3 => absurd h3 (by omega))
    refine g_aload_n (pc' := 12) hX dJ2_add_2_11 rfl rfl ?_
    refine g_iload_n (pc' := 13) hX dJ2_add_2_12 rfl rfl ?_
    refine g_aload_n (pc' := 14) hX dJ2_add_2_13 rfl rfl ?_
    refine g_aastL (pc' := 15) hX dJ2_add_2_14 ha1 (by omega) ha4 (by omega) hv rfl ?_
    refine g_aload_n (pc' := 16) hX dJ2_add_2_15 rfl rfl ?_
    refine g_iload_n (pc' := 17) hX dJ2_add_2_16 rfl rfl ?_
    refine g_iconst (pc' := 18) hX dJ2_add_2_17 rfl ?_
    refine g_iadd (pc' := 19) hX dJ2_add_2_18 rfl ?_
    refine pf_J2_48 (pc' := 22) hX dJ2_add_2_19 hL.1.1 hL.1.2.1 rfl ?_
    exact g_retU hX hF dJ2_add_2_22 (add_ok (m := 0) hL ⟨ha1, ha2, ha3, ha4⟩ hn)
/-- modCount does not matter -/
theorem AL.mc {x : Int} (hL : AL E w l n) (hO : OW E w) : AL E (upw w l 0 x) l n ∧ rdw (upw w l 0 x) l 1 = rdw w l 1 := hL.gr (P := fun a i => a = l ∧ i = 0) (Gr.rf.up ⟨rfl, rfl⟩) (by omega) (by omega) hO
theorem addP.mc {x : Int} {w' : Wd} (hL : AL E w l n) (hO : OW E w) (h : addP E (upw w l 0 x) l n v w') : addP E w l n v w' := by
  have hm := hL.mc (x := x) hO
  refine ⟨h.1, (Gr.rf.up (a := l) (i := 0) (Or.inl rfl)).tr (h.2.1.wk (fun a i z => ?_)), fun i i0 i1 => ?_, h.2.2.2.1, ?_⟩
  · unfold aP at z ⊢
    rw [hm.2] at z; exact z
  · rw [h.2.2.1 i i0 i1]
    refine hL.els (P := fun a i => a = l ∧ i = 0) (Gr.rf.up ⟨rfl, rfl⟩) (by omega) ⟨i0, i1⟩ (fun z => ?_)
    have h1 := hL.arr (by omega)
    have h2 := h1.2.1
    rw [z.1, hL.1.2.1] at h2; omega
  · rcases h.2.2.2.2 with z | z
    · exact Or.inl (z.trans hm.2)
    · exact Or.inr z
theorem c_j_add (hO : OW E w) (hL : AL E w l n) (hn : n ≤ 9) (hv : okr w v) : Call E mJ2_add 4 1 10 [vR l, vR v] w (qI (fun r w' => r = 1 ∧ addP E w l n v w')) := by
  refine call_of (av := [(1, l), (1, v)]) (by decide +kernel) rfl (Nat.le_of_ble_eq_true rfl) ?_
  intro X hX hF hname
  show GG X 1 10 w 0 [(1, l), (1, v)] []
  refine g_aload_n (pc' := 1) hX dJ2_add_0 rfl rfl ?_
  refine g_dup (pc' := 2) hX dJ2_add_1 (vR_cat _) rfl ?_
  refine gf_J2_63 (pc' := 5) hX dJ2_add_2 hL.h0 hL.1.2.1 rfl ?_
  refine g_iconst (pc' := 6) hX dJ2_add_5 rfl ?_
  refine g_iadd (pc' := 7) hX dJ2_add_6 rfl ?_
  refine pf_J2_63 (pc' := 10) hX dJ2_add_7 hL.1.1 hL.1.2.1 rfl ?_
  have hm := hL.mc (x := rdw w l 0 + 1) hO
  have hO2 : OW E (upw w l 0 (rdw w l 0 + 1)) := hO.gr (P := fun a i => a = l ∧ i = 0) (Gr.rf.up ⟨rfl, rfl⟩) (fun a i z => by rw [z.1]; exact hL.1.1)
  refine g_aload_n (pc' := 11) hX dJ2_add_10 rfl rfl ?_
  refine g_aload_n (pc' := 12) hX dJ2_add_11 rfl rfl ?_
  refine g_aload_n (pc' := 13) hX dJ2_add_12 rfl rfl ?_
  refine gf_J2_9 (pc' := 16) hX dJ2_add_13 hL.h0 hL.1.2.1 rfl ?_
  refine g_aload_n (pc' := 17) hX dJ2_add_16 rfl rfl ?_
  refine gf_J2_48 (pc' := 20) hX dJ2_add_17 hL.h0 hL.1.2.1 rfl ?_
  first
    | rw [hm.1.1.2.2.1]
    | (repeat rw [rd_up_ne (by omega)]); rw [hm.1.1.2.2.1]
  refine gV3U (pc' := 23) hX dJ2_add_20 ml_J2_131 gc_J2 hL.h0 hL.1.2.1 (c_j_add2 hO2 hm.1 hn hv) (Nat.le_of_ble_eq_true rfl) (by decide) (by omega) rfl (fun w20 q20 => ?_)
  refine g_iconst (pc' := 24) hX dJ2_add_23 rfl ?_
  exact g_retZ hX hF dJ2_add_24 (Or.inr rfl) ⟨rfl, q20.mc hL hO⟩

theorem c_j_itinit (hit : (eB E : Int) ≤ it) (hk : kdw w it = 8) (hL : AL E w l n) : Call E mJ19_init 1 0 0 [vR it, vR l] w (qEU (upw (upw (upw w it 3 l) it 1 (-1)) it 2 (rdw w l 0))) := by
  refine call_of (av := [(1, it), (1, l)]) (by decide +kernel) rfl (Nat.le_of_ble_eq_true rfl) ?_
  intro X hX hF hname
  show GG X 0 0 w 0 [(1, it), (1, l)] []
  have hne : l ≠ it := kd_ne hL.1.2.1 hk (by decide)
  refine g_aload_n (pc' := 1) hX dJ19_init_0 rfl rfl ?_
  refine g_aload_n (pc' := 2) hX dJ19_init_1 rfl rfl ?_
  refine pf_J19_1 (pc' := 5) hX hname dJ19_init_2 hit hk rfl ?_
  skip
  refine g_aload_n (pc' := 6) hX dJ19_init_5 rfl rfl ?_
  refine g_objInit (pc' := 9) hX dJ19_init_6 q423 q99 q100 (nn_b hit) (by decide) (Nat.le_of_ble_eq_true rfl) rfl ?_
  refine g_aload_n (pc' := 10) hX dJ19_init_9 rfl rfl ?_
  refine g_iconst (pc' := 11) hX dJ19_init_10 rfl ?_
  refine pf_J19_13 (pc' := 14) hX dJ19_init_11 hit hk rfl ?_
  skip
  refine g_aload_n (pc' := 15) hX dJ19_init_14 rfl rfl ?_
  refine g_aload_n (pc' := 16) hX dJ19_init_15 rfl rfl ?_
  refine gf_J19_1 (pc' := 19) hX dJ19_init_16 (nn_b hit) hk rfl ?_
  repeat (first | rw [rd_up_ne (by omega)] | rw [rd_up_eq (by omega)])
  refine gf_J19_17 (pc' := 22) hX dJ19_init_19 hL.h0 hL.1.2.1 rfl ?_
  repeat (first | rw [rd_up_ne (by omega)] | rw [rd_up_eq (by omega)])
  refine pf_J19_22 (pc' := 25) hX dJ19_init_22 hit hk rfl ?_
  skip
  exact g_retEU hX hF dJ19_init_25 (rfl)

theorem fi8 (ci : Nat) : True := trivial
theorem IT_new (hL : AL E w l n) (hfr : FRs w) (hsz : (eB E : Int) ≤ szw w) (g : Int → Int) (hg : g 0 = 0) : IT E (upw (upw (upw (alw w 8 0 g) (szw w) 3 l) (szw w) 1 (-1)) (szw w) 2 (rdw (alw w 8 0 g) l 0)) (szw w) l 0 := by
  have hne : l ≠ szw w := fun z => by have h1 := hfr l (by omega); have h2 := hL.1.2.1; omega
  refine ⟨⟨hsz, by rw [kd_up, kd_up, kd_up, kd_al, if_pos rfl]⟩, ?_, ?_, ?_⟩
  · rw [rd_up_ne (by omega), rd_up_ne (by omega), rd_up_eq ⟨rfl, rfl⟩]
  · rw [rd_up_eq ⟨rfl, rfl⟩, rd_up_ne (by omega), rd_up_ne (by omega), rd_up_ne (by omega)]
  · rw [rd_up_ne (by omega), rd_up_ne (by omega), rd_up_ne (by omega), rd_al, if_pos rfl, hg]
theorem c_j_iterator (hO : OW E w) (hL : AL E w l n) : Call E mJ2_iterator 2 1 4 [vR l] w (qA (fun r w' => IT E w' r l 0 ∧ kdw w r = 0 ∧ Gr (fun _ _ => False) w w')) := by
  refine call_of (av := [(1, l)]) (by decide +kernel) rfl (Nat.le_of_ble_eq_true rfl) ?_
  intro X hX hF hname
  show GG X 1 4 w 0 [(1, l)] []
  refine g_fr (fun hfr hs0 => ?_)
  refine g_szB hX (fun hszB => ?_)
  have hne : l ≠ szw w := fun z => by have h1 := hfr l (by omega); have h2 := hL.1.2.1; omega
  refine g_new (pc' := 3) (fun j => if j = 3 then -1 else 0) hX dJ2_iterator_0 gc_J19 q418 q419 q81 (by decide) (by omega) (by omega) rfl ?_
  have hLa : AL E (alw w 8 0 (fun j => if j = 3 then -1 else 0)) l n := (hL.gr (P := fun _ _ => False) (Gr.rf.al hfr) id id hO).1
  refine g_dup (pc' := 4) hX dJ2_iterator_3 (vR_cat _) rfl ?_
  refine g_aload_n (pc' := 5) hX dJ2_iterator_4 rfl rfl ?_
  refine gI1EU0 (pc' := 8) hX dJ2_iterator_5 ml_J2_269 hs0 (c_j_itinit hszB (by rw [kd_al, if_pos rfl]) hLa) (Nat.le_of_ble_eq_true rfl) (by decide) rfl ?_
  exact g_retA hX hF rfl dJ2_iterator_8 ⟨IT_new hL hfr hszB _ rfl, hfr _ (Int.le_refl _), (((Gr.rf.al hfr).upN (hfr _ (Int.le_refl _))).upN (hfr _ (Int.le_refl _))).upN (hfr _ (Int.le_refl _))⟩

theorem c_j_hasNext (hL : AL E w l n) (hn : n ≤ 10) (hT : IT E w it l c) (hc : 0 ≤ c ∧ c ≤ n) : Call E mJ19_hasNext 0 0 0 [vR it] w (qE (if c = n then 0 else 1) w) := by
  refine call_of (av := [(1, it)]) (by decide +kernel) rfl (Nat.le_of_ble_eq_true rfl) ?_
  intro X hX hF hname
  show GG X 0 0 w 0 [(1, it)] []
  have hF0 := hF
  refine g_aload_n (pc' := 1) hX dJ19_hasNext_0 rfl rfl ?_
  refine gf_J19_25 (pc' := 4) hX dJ19_hasNext_1 (nn_b hT.1.1) hT.1.2 rfl ?_
  rw [hT.2.2.2]
  refine g_aload_n (pc' := 5) hX dJ19_hasNext_4 rfl rfl ?_
  refine gf_J19_1 (pc' := 8) hX dJ19_hasNext_5 (nn_b hT.1.1) hT.1.2 rfl ?_
  rw [hT.2.1]
  refine gf_J19_28 (pc' := 11) hX dJ19_hasNext_8 hL.h0 hL.1.2.1 rfl ?_
  rw [hL.1.2.2.1]
  refine g_icmp_eq (pc' := 14) (tgt := 18) hX dJ19_hasNext_11 (by decide) rfl (by omega) (by omega) (fun h11 => ?_) (fun h11 => ?_)
  · skip
    rw [if_pos (by omega)] at hF0
    refine g_iconst (pc' := 19) hX dJ19_hasNext_18 rfl ?_
    exact g_retEZ hX hF0 dJ19_hasNext_19 (by omega) rfl rfl
  · skip
    rw [if_neg (by omega)] at hF0
    refine g_iconst (pc' := 15) hX dJ19_hasNext_14 rfl ?_
    refine g_goto (tgt := 19) hX dJ19_hasNext_15 (by decide) ?_
    exact g_retEZ hX hF0 dJ19_hasNext_19 (by omega) rfl rfl

theorem c_j_chkMod (hL : AL E w l n) (hT : IT E w it l c) : Call E mJ19_checkForComodification 0 0 0 [vR it] w (qEU w) := by
  refine call_of (av := [(1, it)]) (by decide +kernel) rfl (Nat.le_of_ble_eq_true rfl) ?_
  intro X hX hF hname
  show GG X 0 0 w 0 [(1, it)] []
  refine g_aload_n (pc' := 1) hX dJ19_checkForComodification_0 rfl rfl ?_
  refine gf_J19_1 (pc' := 4) hX dJ19_checkForComodification_1 (nn_b hT.1.1) hT.1.2 rfl ?_
  rw [hT.2.1]
  refine gf_J19_17 (pc' := 7) hX dJ19_checkForComodification_4 hL.h0 hL.1.2.1 rfl ?_
  refine g_aload_n (pc' := 8) hX dJ19_checkForComodification_7 rfl rfl ?_
  refine gf_J19_22 (pc' := 11) hX dJ19_checkForComodification_8 (nn_b hT.1.1) hT.1.2 rfl ?_
  rw [hT.2.2.1]
  refine g_icmp_eqS (tgt := 22) hX dJ19_checkForComodification_11 (by decide) ?_
  exact g_retEU hX hF dJ19_checkForComodification_22 rfl

theorem c_j_next (hL : AL E w l n) (hT : IT E w it l c) (hc : 0 ≤ c ∧ c < n) : Call E mJ19_next 1 0 0 [vR it] w (qEA (el w l c) (upw (upw w it 0 (c + 1)) it 1 c)) := by
  refine call_of (av := [(1, it)]) (by decide +kernel) rfl (Nat.le_of_ble_eq_true rfl) ?_
  intro X hX hF hname
  show GG X 0 0 w 0 [(1, it), (9, 0), (9, 0)] []
  obtain ⟨ha1, ha2, ha3, ha4⟩ := hL.arr (by omega)
  have hne : rdw w l 1 ≠ it := kd_ne ha2 hT.1.2 (by omega)
  have hne2 : l ≠ it := kd_ne hL.1.2.1 hT.1.2 (by decide)
  refine g_aload_n (pc' := 1) hX dJ19_next_0 rfl rfl ?_
  refine gV0EU0 (pc' := 4) hX dJ19_next_1 ml_J19_31 gc_J19 (nn_b hT.1.1) hT.1.2 (c_j_chkMod hL hT) (Nat.le_of_ble_eq_true rfl) (by decide) rfl ?_
  refine g_aload_n (pc' := 5) hX dJ19_next_4 rfl rfl ?_
  refine gf_J19_25 (pc' := 8) hX dJ19_next_5 (nn_b hT.1.1) hT.1.2 rfl ?_
  rw [hT.2.2.2]
  refine g_istore_n_1 (pc' := 9) hX dJ19_next_8 (by decide) rfl rfl ?_
  refine g_iload_n (pc' := 10) hX dJ19_next_9 rfl rfl ?_
  refine g_aload_n (pc' := 11) hX dJ19_next_10 rfl rfl ?_
  refine gf_J19_1 (pc' := 14) hX dJ19_next_11 (nn_b hT.1.1) hT.1.2 rfl ?_
  rw [hT.2.1]
  refine gf_J19_28 (pc' := 17) hX dJ19_next_14 hL.h0 hL.1.2.1 rfl ?_
  rw [hL.1.2.2.1]
  refine g_icmp_lt (pc' := 20) (tgt := 28) hX dJ19_next_17 (by decide) rfl (by omega) (by omega) (fun h17 => ?_) (fun h17 => absurd h17 (by omega))
  refine g_aload_n (pc' := 29) hX dJ19_next_28 rfl rfl ?_
  refine gf_J19_1 (pc' := 32) hX dJ19_next_29 (nn_b hT.1.1) hT.1.2 rfl ?_
  rw [hT.2.1]
  refine gf_J19_37 (pc' := 35) hX dJ19_next_32 hL.h0 hL.1.2.1 rfl ?_
  refine g_astore_n_2 (pc' := 36) hX dJ19_next_35 (by decide) rfl rfl ?_
  refine g_iload_n (pc' := 37) hX dJ19_next_36 rfl rfl ?_
  refine g_aload_n (pc' := 38) hX dJ19_next_37 rfl rfl ?_
  refine g_alenL (n := 10) (pc' := 39) hX dJ19_next_38 (nn_b ha1) (by omega) ha4 (by omega) rfl ?_
  refine g_icmp_lt (pc' := 42) (tgt := 50) hX dJ19_next_39 (by decide) rfl (by omega) (by omega) (fun h39 => ?_) (fun h39 => absurd h39 (by omega))
  refine g_aload_n (pc' := 51) hX dJ19_next_50 rfl rfl ?_
  refine g_iload_n (pc' := 52) hX dJ19_next_51 rfl rfl ?_
  refine g_iconst (pc' := 53) hX dJ19_next_52 rfl ?_
  refine g_iadd (pc' := 54) hX dJ19_next_53 rfl ?_
  refine pf_J19_25 (pc' := 57) hX dJ19_next_54 hT.1.1 hT.1.2 rfl ?_
  skip
  refine g_aload_n (pc' := 58) hX dJ19_next_57 rfl rfl ?_
  refine g_aload_n (pc' := 59) hX dJ19_next_58 rfl rfl ?_
  refine g_iload_n (pc' := 60) hX dJ19_next_59 rfl rfl ?_
  refine g_dup_x1 (pc' := 61) hX dJ19_next_60 (vI_cat _) (vR_cat _) rfl ?_
  refine pf_J19_13 (pc' := 64) hX dJ19_next_61 hT.1.1 hT.1.2 rfl ?_
  skip
  refine g_aaldL (pc' := 65) (n := 10) hX dJ19_next_64 (nn_b ha1) (by rw [kd_up, kd_up]; omega) ha4 (by omega) rfl ?_
  rw [rd_up_ne (fun z => hne z.1), rd_up_ne (fun z => hne z.1)]
  exact g_retEA hX hF rfl dJ19_next_65 (rfl) rfl

theorem c_j_intValue (hB : bx w o v) : Call E mJ4_intValue 0 0 0 [vR o] w (qE v w) := by
  refine call_of (av := [(1, o)]) (by decide +kernel) rfl (Nat.le_of_ble_eq_true rfl) ?_
  intro X hX hF hname
  show GG X 0 0 w 0 [(1, o)] []
  refine g_aload_n (pc' := 1) hX dJ4_intValue_0 rfl rfl ?_
  refine gf_J4_205 (pc' := 4) hX dJ4_intValue_1 hB.1 hB.2.1 rfl ?_
  rw [hB.2.2]
  exact g_retE hX hF dJ4_intValue_4 (rfl) rfl

theorem c_j_valueOf (hO : OW E w) (hv : -128 ≤ v ∧ v ≤ 127) : Call E mJ4_valueOf 0 0 0 [vI v] w (qEA (rdw w (eI E : Int) (v + 128)) w) := by
  refine call_of (av := [(0, v)]) (by decide +kernel) rfl (Nat.le_of_ble_eq_true rfl) ?_
  intro X hX hF hname
  show GG X 0 0 w 0 [(0, v)] []
  refine g_iload_n (pc' := 1) hX dJ4_valueOf_0 rfl rfl ?_
  refine g_bipush (pc' := 3) hX dJ4_valueOf_1 rfl rfl ?_
  refine g_icmp_lt (pc' := 6) (tgt := 23) hX dJ4_valueOf_3 (by decide) rfl (by omega) (by omega) (fun h3 => absurd h3 (by omega)) (fun h3 => ?_)
  refine g_iload_n (pc' := 7) hX dJ4_valueOf_6 rfl rfl ?_
  refine g_gets (pc' := 10) (C := "java/lang/Integer$IntegerCache") (n := "high") (ds := "I") (ref := "I") (v := .int 127) hX dJ4_valueOf_7 (fun _ _ z => z.2.2.1) q136 rfl ?_
  rw [show (Value.int 127) = vI 127 from rfl]
  refine g_icmp_gt (pc' := 13) (tgt := 23) hX dJ4_valueOf_10 (by decide) rfl (by omega) (by omega) (fun h10 => absurd h10 (by omega)) (fun h10 => ?_)
  refine g_gets (pc' := 16) (C := "java/lang/Integer$IntegerCache") (n := "cache") (ds := "[Ljava/lang/Integer;") (ref := "[Ljava/lang/Integer;") (v := .ref (eI E)) hX dJ4_valueOf_13 (fun _ _ z => z.2.1) q138 rfl ?_
  rw [← vR_nat]
  refine g_iload_n (pc' := 17) hX dJ4_valueOf_16 rfl rfl ?_
  refine g_sipush (pc' := 20) hX dJ4_valueOf_17 rfl rfl ?_
  refine g_iadd (pc' := 21) hX dJ4_valueOf_20 rfl ?_
  refine g_cald (pc' := 22) (n := 256) hX dJ4_valueOf_21 (by omega) hO.1.2.2.1 hO.1.2.2.2 (by omega) rfl ?_
  exact g_retEA hX hF rfl dJ4_valueOf_22 (rfl) rfl

end J1S
