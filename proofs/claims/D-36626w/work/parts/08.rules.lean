/-! THE ROWS: an instruction each, GG behind it to GG ahead of it -/
set_option maxRecDepth 100000
section RW0
variable {X : Cx} {E : Ev} {own : String} {cc : ByteArray} {nL d bc bs : Nat} {w : Wd} {pc pc' : Nat} {lv : List (Nat × Int)} {st : List Value}
theorem GG_pc (h : GG X bc bs w pc' lv st) (e : pc' = pc) : GG X bc bs w pc lv st := e ▸ h
theorem GG_w {w' : Wd} (e : w' = w) (h : GG X bc bs w' pc lv st) : GG X bc bs w pc lv st := e ▸ h
theorem GG_st {st' : List Value} (e : st' = st) (h : GG X bc bs w pc lv st') : GG X bc bs w pc lv st := e ▸ h
theorem GG_less {bc' bs' : Nat} (h : GG X bc' bs' w pc lv st) (h1 : bc' ≤ bc) (h2 : bs' ≤ bs) : GG X bc bs w pc lv st :=
  fun H locs ls cells slots a b c e f => h H locs ls cells slots a b c (by omega) (by omega)
/-- fewer locals are known -/
def lvLe : List (Nat × Int) → List (Nat × Int) → Prop
  | [], _ => True
  | q :: l, [] => q.1 = 9 ∧ lvLe l []
  | q :: l, r :: m => (q.1 = 9 ∨ q = r) ∧ lvLe l m
theorem lvLe_at : ∀ {l m : List (Nat × Int)}, lvLe l m → ∀ (j t : Nat) (x : Int), l[j]? = some (t, x) → t ≠ 9 → m[j]? = some (t, x) := by
  intro l
  induction l with
  | nil => intro m _ j t x h; simp at h
  | cons q l ih =>
    intro m h j t x hj ht
    cases m with
    | nil =>
      cases j with
      | zero => simp at hj; subst hj; exact absurd h.1 ht
      | succ j => have h1 := ih h.2 j t x (by simpa using hj) ht; simp at h1
    | cons r m =>
      cases j with
      | zero =>
        simp at hj
        subst hj
        rcases h.1 with h1 | h1
        · exact absurd h1 ht
        · simp [← h1]
      | succ j => simpa using ih h.2 j t x (by simpa using hj) ht
theorem GG_lv {lv' : List (Nat × Int)} (h : GG X bc bs w pc lv' st) (e : lvLe lv' lv) : GG X bc bs w pc lv st :=
  fun H locs ls cells slots a b c e1 f => h H locs ls cells slots a b ⟨c.1, c.2.1, fun j t x h1 h2 => c.2.2 j t x (lvLe_at e j t x h1 h2) h2⟩ e1 f

theorem g_iconst {n : Int} (h : Ok X E own cc nL d) (dg : decode cc pc = .ok (.iconst n, 1)) (hp : pc + 1 = pc') (k : GG X bc bs w pc' lv (vI n :: st)) : GG X bc bs w pc lv (st) := by
  subst hp
  exact fun H locs ls cells slots a b c e f => lv_iconst h.1 h.2.1 dg rfl (k H locs ls cells slots a b c e f)
theorem g_bipush {n : Int} (h : Ok X E own cc nL d) (dg : decode cc pc = .ok (.bipush n, 2)) (hv : (Int8.ofInt n).toInt32 = Int32.ofInt n) (hp : pc + 2 = pc') (k : GG X bc bs w pc' lv (vI n :: st)) : GG X bc bs w pc lv (st) := by
  subst hp
  exact fun H locs ls cells slots a b c e f => lv_bipush h.1 h.2.1 dg hv (k H locs ls cells slots a b c e f)
theorem g_sipush {n : Int} (h : Ok X E own cc nL d) (dg : decode cc pc = .ok (.sipush n, 3)) (hv : (Int16.ofInt n).toInt32 = Int32.ofInt n) (hp : pc + 3 = pc') (k : GG X bc bs w pc' lv (vI n :: st)) : GG X bc bs w pc lv (st) := by
  subst hp
  exact fun H locs ls cells slots a b c e f => lv_sipush h.1 h.2.1 dg hv (k H locs ls cells slots a b c e f)
theorem g_lconst {n : Fin 2} {v : Int} (h : Ok X E own cc nL d) (dg : decode cc pc = .ok (.lconst n, 1)) (hv : Int64.ofNat (n : Nat) = Int64.ofInt v) (hp : pc + 1 = pc') (k : GG X bc bs w pc' lv (vL v :: st)) : GG X bc bs w pc lv (st) := by
  subst hp
  exact fun H locs ls cells slots a b c e f => lv_lconst h.1 h.2.1 dg hv (k H locs ls cells slots a b c e f)
theorem g_ldc {idx : Nat} {v : Int32} {n : Int} (h : Ok X E own cc nL d) (dg : decode cc pc = .ok (.ldc idx, 2)) (hq : Jvm.Cond.constant own idx v ∈ lw_all) (hv : v = Int32.ofInt n) (hp : pc + 2 = pc') (k : GG X bc bs w pc' lv (vI n :: st)) : GG X bc bs w pc lv (st) := by
  subst hp
  subst hv
  exact fun H locs ls cells slots a b c e f => lv_ldc h.1 h.2.1 h.2.2.2.1 (h.2.2.2.2.1 _ hq) dg (k H locs ls cells slots a b c e f)
theorem g_ldc2 {idx : Nat} {v : Int64} {n : Int} (h : Ok X E own cc nL d) (dg : decode cc pc = .ok (.ldc2_w idx, 3)) (hq : Jvm.Cond.constantLong own idx v ∈ lw_all) (hv : v = Int64.ofInt n) (hp : pc + 3 = pc') (k : GG X bc bs w pc' lv (vL n :: st)) : GG X bc bs w pc lv (st) := by
  subst hp
  subst hv
  exact fun H locs ls cells slots a b c e f => lv_ldc2 h.1 h.2.1 h.2.2.2.1 (h.2.2.2.2.1 _ hq) dg (k H locs ls cells slots a b c e f)
theorem g_fconst0  (h : Ok X E own cc nL d) (dg : decode cc pc = .ok (.fconst 0, 1)) (hp : pc + 1 = pc') (k : GG X bc bs w pc' lv (.float 0 :: st)) : GG X bc bs w pc lv (st) := by
  subst hp
  exact fun H locs ls cells slots a b c e f => lv_fconst0 h.1 h.2.1 dg (k H locs ls cells slots a b c e f)
theorem g_null  (h : Ok X E own cc nL d) (dg : decode cc pc = .ok (.aconst_null, 1)) (hp : pc + 1 = pc') (k : GG X bc bs w pc' lv (vR (-1) :: st)) : GG X bc bs w pc lv (st) := by
  subst hp
  exact fun H locs ls cells slots a b c e f => lv_null h.1 h.2.1 dg (k H locs ls cells slots a b c e f)
theorem g_iload {i : Nat} {x : Int} (h : Ok X E own cc nL d) (dg : decode cc pc = .ok (.iload i, 2)) (hl : lv[i]? = some (0, x)) (hp : pc + 2 = pc') (k : GG X bc bs w pc' lv (vI x :: st)) : GG X bc bs w pc lv (st) := by
  subst hp
  exact fun H locs ls cells slots a b c e f => lv_iload h.1 h.2.1 dg (c.2.2 i 0 x hl (by decide)) (k H locs ls cells slots a b c e f)
theorem g_iload_n {i : Fin 4} {x : Int} (h : Ok X E own cc nL d) (dg : decode cc pc = .ok (.iload_n i, 1)) (hl : lv[(i : Nat)]? = some (0, x)) (hp : pc + 1 = pc') (k : GG X bc bs w pc' lv (vI x :: st)) : GG X bc bs w pc lv (st) := by
  subst hp
  exact fun H locs ls cells slots a b c e f => lv_iload_n h.1 h.2.1 dg rfl (c.2.2 i 0 x hl (by decide)) (k H locs ls cells slots a b c e f)
theorem g_lload {i : Nat} {x : Int} (h : Ok X E own cc nL d) (dg : decode cc pc = .ok (.lload i, 2)) (hl : lv[i]? = some (2, x)) (hp : pc + 2 = pc') (k : GG X bc bs w pc' lv (vL x :: st)) : GG X bc bs w pc lv (st) := by
  subst hp
  exact fun H locs ls cells slots a b c e f => lv_lload h.1 h.2.1 dg (c.2.2 i 2 x hl (by decide)) (k H locs ls cells slots a b c e f)
theorem g_lload_n {i : Fin 4} {x : Int} (h : Ok X E own cc nL d) (dg : decode cc pc = .ok (.lload_n i, 1)) (hl : lv[(i : Nat)]? = some (2, x)) (hp : pc + 1 = pc') (k : GG X bc bs w pc' lv (vL x :: st)) : GG X bc bs w pc lv (st) := by
  subst hp
  exact fun H locs ls cells slots a b c e f => lv_lload_n h.1 h.2.1 dg rfl (c.2.2 i 2 x hl (by decide)) (k H locs ls cells slots a b c e f)
theorem g_fload {i : Nat} {x : Int} (h : Ok X E own cc nL d) (dg : decode cc pc = .ok (.fload i, 2)) (hl : lv[i]? = some (3, x)) (hp : pc + 2 = pc') (k : GG X bc bs w pc' lv (vF x :: st)) : GG X bc bs w pc lv (st) := by
  subst hp
  exact fun H locs ls cells slots a b c e f => lv_fload h.1 h.2.1 dg (c.2.2 i 3 x hl (by decide)) (k H locs ls cells slots a b c e f)
theorem g_fload_n {i : Fin 4} {x : Int} (h : Ok X E own cc nL d) (dg : decode cc pc = .ok (.fload_n i, 1)) (hl : lv[(i : Nat)]? = some (3, x)) (hp : pc + 1 = pc') (k : GG X bc bs w pc' lv (vF x :: st)) : GG X bc bs w pc lv (st) := by
  subst hp
  exact fun H locs ls cells slots a b c e f => lv_fload_n h.1 h.2.1 dg rfl (c.2.2 i 3 x hl (by decide)) (k H locs ls cells slots a b c e f)
theorem g_dload {i : Nat} {x : Int} (h : Ok X E own cc nL d) (dg : decode cc pc = .ok (.dload i, 2)) (hl : lv[i]? = some (4, x)) (hp : pc + 2 = pc') (k : GG X bc bs w pc' lv (vD x :: st)) : GG X bc bs w pc lv (st) := by
  subst hp
  exact fun H locs ls cells slots a b c e f => lv_dload h.1 h.2.1 dg (c.2.2 i 4 x hl (by decide)) (k H locs ls cells slots a b c e f)
theorem g_dload_n {i : Fin 4} {x : Int} (h : Ok X E own cc nL d) (dg : decode cc pc = .ok (.dload_n i, 1)) (hl : lv[(i : Nat)]? = some (4, x)) (hp : pc + 1 = pc') (k : GG X bc bs w pc' lv (vD x :: st)) : GG X bc bs w pc lv (st) := by
  subst hp
  exact fun H locs ls cells slots a b c e f => lv_dload_n h.1 h.2.1 dg rfl (c.2.2 i 4 x hl (by decide)) (k H locs ls cells slots a b c e f)
theorem g_aload {i : Nat} {x : Int} (h : Ok X E own cc nL d) (dg : decode cc pc = .ok (.aload i, 2)) (hl : lv[i]? = some (1, x)) (hp : pc + 2 = pc') (k : GG X bc bs w pc' lv (vR x :: st)) : GG X bc bs w pc lv st := by
  subst hp
  intro H locs ls cells slots a b c e f
  have hk := k H locs ls cells slots a b c e f
  have hc : ls[i]? = some (.val (vR x)) := c.2.2 i 1 x hl (by decide)
  unfold vR at hk hc
  cases hx : ro x with
  | none => rw [hx] at hk hc; exact lv_aloadN h.1 h.2.1 dg hc hk
  | some y => rw [hx] at hk hc; exact lv_aload h.1 h.2.1 dg hc hk
theorem g_aload_n {i : Fin 4} {x : Int} (h : Ok X E own cc nL d) (dg : decode cc pc = .ok (.aload_n i, 1)) (hl : lv[(i : Nat)]? = some (1, x)) (hp : pc + 1 = pc') (k : GG X bc bs w pc' lv (vR x :: st)) : GG X bc bs w pc lv st := by
  subst hp
  intro H locs ls cells slots a b c e f
  have hk := k H locs ls cells slots a b c e f
  have hc : ls[(i : Nat)]? = some (.val (vR x)) := c.2.2 i 1 x hl (by decide)
  unfold vR at hk hc
  cases hx : ro x with
  | none => rw [hx] at hk hc; exact lv_aload_nN h.1 h.2.1 dg rfl hc hk
  | some y => rw [hx] at hk hc; exact lv_aload_n h.1 h.2.1 dg rfl hc hk
theorem lvH_set1 {ls : Array Slot} {n i : Nat} {t : Nat} {x : Int} {lv lv' : List (Nat × Int)} (h : lvH ls n lv) (hi : i < n) (h1 : ∀ j, j ≠ i → ∀ t' x', lv'[j]? = some (t', x') → t' ≠ 9 → lv[j]? = some (t', x') ∧ (j + 1 = i → t' = 0 ∨ t' = 1 ∨ t' = 3)) (h2 : ∀ t' x', lv'[i]? = some (t', x') → t' = t ∧ x' = x) :
    ∀ ls' : Array Slot, lv_has ls' n ((i, tvv t x) :: (lvC lv).filter (fun q => !(q.1 == i) && !(q.1 + 1 == i && q.2.category == 2))) → lvH ls' n lv' := by
  intro ls' h'
  refine ⟨h'.1, h'.2.1, fun j t' x' hj h9 => ?_⟩
  by_cases e : j = i
  · subst e
    obtain ⟨rfl, rfl⟩ := h2 t' x' hj
    exact h'.2.2 (j, tvv t' x') List.mem_cons_self
  · obtain ⟨g1, g2⟩ := h1 j e t' x' hj h9
    refine h'.2.2 (j, tvv t' x') (List.mem_cons_of_mem _ (List.mem_filter.mpr ⟨lvC_mem g1 h9, ?_⟩))
    by_cases e2 : j + 1 = i
    · have hcat : (tvv t' x').category = 1 := tvv_cat1 (g2 e2)
      simp [e, hcat]
    · simp [e, e2]
theorem lvH_set2 {ls : Array Slot} {n i : Nat} {t : Nat} {x : Int} {lv lv' : List (Nat × Int)} (h : lvH ls n lv) (hi : i + 1 < n) (h1 : ∀ j, j ≠ i → ∀ t' x', lv'[j]? = some (t', x') → t' ≠ 9 → j ≠ i + 1 ∧ lv[j]? = some (t', x') ∧ (j + 1 = i → t' = 0 ∨ t' = 1 ∨ t' = 3)) (h2 : ∀ t' x', lv'[i]? = some (t', x') → t' = t ∧ x' = x) :
    ∀ ls' : Array Slot, lv_has ls' n ((i, tvv t x) :: (lvC lv).filter (fun q => !(q.1 == i) && (!(q.1 == i + 1) && !(q.1 + 1 == i && q.2.category == 2)))) → lvH ls' n lv' := by
  intro ls' h'
  refine ⟨h'.1, h'.2.1, fun j t' x' hj h9 => ?_⟩
  by_cases e : j = i
  · subst e
    obtain ⟨rfl, rfl⟩ := h2 t' x' hj
    exact h'.2.2 (j, tvv t' x') List.mem_cons_self
  · obtain ⟨g0, g1, g2⟩ := h1 j e t' x' hj h9
    refine h'.2.2 (j, tvv t' x') (List.mem_cons_of_mem _ (List.mem_filter.mpr ⟨lvC_mem g1 h9, ?_⟩))
    by_cases e2 : j + 1 = i
    · have hcat : (tvv t' x').category = 1 := tvv_cat1 (g2 e2)
      simp [e, g0, hcat]
    · simp [e, g0, e2]
/-- the checks of a store at the place i: the list with its place i (and i + 1) put anew -/
theorem lvE1 {i : Nat} {q : Nat × Int} {lv : List (Nat × Int)} (hi : i < lv.length) (hb : i = 0 ∨ ∀ t x, lv[i - 1]? = some (t, x) → t ≠ 9 → t = 0 ∨ t = 1 ∨ t = 3) :
    (∀ j, j ≠ i → ∀ t' x', (lv.set i q)[j]? = some (t', x') → t' ≠ 9 → lv[j]? = some (t', x') ∧ (j + 1 = i → t' = 0 ∨ t' = 1 ∨ t' = 3)) ∧ (∀ t' x', (lv.set i q)[i]? = some (t', x') → t' = q.1 ∧ x' = q.2) := by
  constructor
  · intro j hj t' x' h9 ht
    rw [List.getElem?_set_ne (Ne.symm hj)] at h9
    refine ⟨h9, fun e => ?_⟩
    rcases hb with hb | hb
    · omega
    · exact hb t' x' (by rw [← h9]; congr 1; omega) ht
  · intro t' x' h9
    rw [List.getElem?_set_self hi] at h9
    cases h9
    exact ⟨rfl, rfl⟩
theorem lvE2 {i : Nat} {q : Nat × Int} {lv : List (Nat × Int)} (hi : i + 1 < lv.length) (hb : i = 0 ∨ ∀ t x, lv[i - 1]? = some (t, x) → t ≠ 9 → t = 0 ∨ t = 1 ∨ t = 3) :
    (∀ j, j ≠ i → ∀ t' x', ((lv.set i q).set (i + 1) (9, 0))[j]? = some (t', x') → t' ≠ 9 → j ≠ i + 1 ∧ lv[j]? = some (t', x') ∧ (j + 1 = i → t' = 0 ∨ t' = 1 ∨ t' = 3)) ∧ (∀ t' x', ((lv.set i q).set (i + 1) (9, 0))[i]? = some (t', x') → t' = q.1 ∧ x' = q.2) := by
  constructor
  · intro j hj t' x' h9 ht
    by_cases e1 : j = i + 1
    · subst e1
      rw [List.getElem?_set_self (by simpa using hi)] at h9
      cases h9
      exact absurd rfl ht
    · rw [List.getElem?_set_ne (Ne.symm e1), List.getElem?_set_ne (Ne.symm hj)] at h9
      refine ⟨e1, h9, fun e => ?_⟩
      rcases hb with hb | hb
      · omega
      · exact hb t' x' (by rw [← h9]; congr 1; omega) ht
  · intro t' x' h9
    rw [List.getElem?_set_ne (by omega), List.getElem?_set_self (by omega)] at h9
    cases h9
    exact ⟨rfl, rfl⟩
def lvB (lv : List (Nat × Int)) (i : Nat) : Bool := match i with
  | 0 => true
  | j + 1 => match lv[j]? with
    | some q => q.1 == 9 || (q.1 == 0 || q.1 == 1 || q.1 == 3)
    | none => true
theorem lvB_ok {lv : List (Nat × Int)} {i : Nat} (h : lvB lv i = true) : i = 0 ∨ ∀ t x, lv[i - 1]? = some (t, x) → t ≠ 9 → t = 0 ∨ t = 1 ∨ t = 3 := by
  cases i with
  | zero => exact Or.inl rfl
  | succ j =>
    refine Or.inr fun t x h1 h2 => ?_
    have e : j + 1 - 1 = j := rfl
    rw [e] at h1
    simp only [lvB, h1, Bool.or_eq_true, beq_iff_eq] at h
    omega

theorem g_istore_g {i : Nat} {x : Int} (h : Ok X E own cc nL d) (dg : decode cc pc = .ok (.istore i, 2)) (hi : i < lv.length) (hn : i < nL) (hb : lvB lv i = true) (hp : pc + 2 = pc') (k : GG X bc bs w pc' (lv.set i (0, x)) st) : GG X bc bs w pc lv (vI x :: st) := by
  subst hp
  intro H locs ls cells slots a b c e f
  have hE := lvE1 (q := (0, x)) hi (lvB_ok hb)
  exact lv_istore h.1 h.2.1 dg (lvH_has c) (by rw [h.2.2.1]; exact hn) rfl (fun ls' h' => k H locs ls' cells slots a b (lvH_set1 c (by rw [h.2.2.1]; exact hn) hE.1 hE.2 ls' h') e f)
theorem g_istore_n_g {i : Fin 4} {x : Int} (h : Ok X E own cc nL d) (dg : decode cc pc = .ok (.istore_n i, 1)) (hi : (i : Nat) < lv.length) (hn : (i : Nat) < nL) (hb : lvB lv (i : Nat) = true) (hp : pc + 1 = pc') (k : GG X bc bs w pc' (lv.set (i : Nat) (0, x)) st) : GG X bc bs w pc lv (vI x :: st) := by
  subst hp
  intro H locs ls cells slots a b c e f
  have hE := lvE1 (q := (0, x)) hi (lvB_ok hb)
  exact lv_istore_n h.1 h.2.1 dg rfl (lvH_has c) (by rw [h.2.2.1]; exact hn) rfl (fun ls' h' => k H locs ls' cells slots a b (lvH_set1 c (by rw [h.2.2.1]; exact hn) hE.1 hE.2 ls' h') e f)
theorem g_fstore_g {i : Nat} {x : Int} (h : Ok X E own cc nL d) (dg : decode cc pc = .ok (.fstore i, 2)) (hi : i < lv.length) (hn : i < nL) (hb : lvB lv i = true) (hp : pc + 2 = pc') (k : GG X bc bs w pc' (lv.set i (3, x)) st) : GG X bc bs w pc lv (vF x :: st) := by
  subst hp
  intro H locs ls cells slots a b c e f
  have hE := lvE1 (q := (3, x)) hi (lvB_ok hb)
  exact lv_fstore h.1 h.2.1 dg (lvH_has c) (by rw [h.2.2.1]; exact hn) rfl (fun ls' h' => k H locs ls' cells slots a b (lvH_set1 c (by rw [h.2.2.1]; exact hn) hE.1 hE.2 ls' h') e f)
theorem g_fstore_n_g {i : Fin 4} {x : Int} (h : Ok X E own cc nL d) (dg : decode cc pc = .ok (.fstore_n i, 1)) (hi : (i : Nat) < lv.length) (hn : (i : Nat) < nL) (hb : lvB lv (i : Nat) = true) (hp : pc + 1 = pc') (k : GG X bc bs w pc' (lv.set (i : Nat) (3, x)) st) : GG X bc bs w pc lv (vF x :: st) := by
  subst hp
  intro H locs ls cells slots a b c e f
  have hE := lvE1 (q := (3, x)) hi (lvB_ok hb)
  exact lv_fstore_n h.1 h.2.1 dg rfl (lvH_has c) (by rw [h.2.2.1]; exact hn) rfl (fun ls' h' => k H locs ls' cells slots a b (lvH_set1 c (by rw [h.2.2.1]; exact hn) hE.1 hE.2 ls' h') e f)
theorem g_astore_g {i : Nat} {x : Int} (h : Ok X E own cc nL d) (dg : decode cc pc = .ok (.astore i, 2)) (hi : i < lv.length) (hn : i < nL) (hb : lvB lv i = true) (hp : pc + 2 = pc') (k : GG X bc bs w pc' (lv.set i (1, x)) st) : GG X bc bs w pc lv (vR x :: st) := by
  subst hp
  intro H locs ls cells slots a b c e f
  have hE := lvE1 (q := (1, x)) hi (lvB_ok hb)
  have hs := fun ls' h' => lvH_set1 (t := 1) (x := x) c (by rw [h.2.2.1]; exact hn) hE.1 hE.2 ls' h'
  have ht : tvv 1 x = vR x := rfl
  rw [ht] at hs
  unfold vR at hs ⊢
  cases hx : ro x with
  | none => rw [hx] at hs; exact lv_astoreN h.1 h.2.1 dg (lvH_has c) (by rw [h.2.2.1]; exact hn) rfl (fun ls' h' => k H locs ls' cells slots a b (hs ls' h') e f)
  | some y => rw [hx] at hs; exact lv_astore h.1 h.2.1 dg (lvH_has c) (by rw [h.2.2.1]; exact hn) rfl (fun ls' h' => k H locs ls' cells slots a b (hs ls' h') e f)
theorem g_astore_n_g {i : Fin 4} {x : Int} (h : Ok X E own cc nL d) (dg : decode cc pc = .ok (.astore_n i, 1)) (hi : (i : Nat) < lv.length) (hn : (i : Nat) < nL) (hb : lvB lv (i : Nat) = true) (hp : pc + 1 = pc') (k : GG X bc bs w pc' (lv.set (i : Nat) (1, x)) st) : GG X bc bs w pc lv (vR x :: st) := by
  subst hp
  intro H locs ls cells slots a b c e f
  have hE := lvE1 (q := (1, x)) hi (lvB_ok hb)
  have hs := fun ls' h' => lvH_set1 (t := 1) (x := x) c (by rw [h.2.2.1]; exact hn) hE.1 hE.2 ls' h'
  have ht : tvv 1 x = vR x := rfl
  rw [ht] at hs
  unfold vR at hs ⊢
  cases hx : ro x with
  | none => rw [hx] at hs; exact lv_astore_nN h.1 h.2.1 dg rfl (lvH_has c) (by rw [h.2.2.1]; exact hn) rfl (fun ls' h' => k H locs ls' cells slots a b (hs ls' h') e f)
  | some y => rw [hx] at hs; exact lv_astore_n h.1 h.2.1 dg rfl (lvH_has c) (by rw [h.2.2.1]; exact hn) rfl (fun ls' h' => k H locs ls' cells slots a b (hs ls' h') e f)
theorem g_lstore_g {i : Nat} {x : Int} (h : Ok X E own cc nL d) (dg : decode cc pc = .ok (.lstore i, 2)) (hi : i + 1 < lv.length) (hn : i + 1 < nL) (hb : lvB lv i = true) (hp : pc + 2 = pc') (k : GG X bc bs w pc' ((lv.set i (2, x)).set (i + 1) (9, 0)) st) : GG X bc bs w pc lv (vL x :: st) := by
  subst hp
  intro H locs ls cells slots a b c e f
  have hE := lvE2 (q := (2, x)) hi (lvB_ok hb)
  exact lv_lstore h.1 h.2.1 dg (lvH_has c) (by rw [h.2.2.1]; exact hn) rfl (fun ls' h' => k H locs ls' cells slots a b (lvH_set2 c (by rw [h.2.2.1]; exact hn) hE.1 hE.2 ls' h') e f)
theorem g_lstore_n_g {i : Fin 4} {x : Int} (h : Ok X E own cc nL d) (dg : decode cc pc = .ok (.lstore_n i, 1)) (hi : (i : Nat) + 1 < lv.length) (hn : (i : Nat) + 1 < nL) (hb : lvB lv (i : Nat) = true) (hp : pc + 1 = pc') (k : GG X bc bs w pc' ((lv.set (i : Nat) (2, x)).set ((i : Nat) + 1) (9, 0)) st) : GG X bc bs w pc lv (vL x :: st) := by
  subst hp
  intro H locs ls cells slots a b c e f
  have hE := lvE2 (q := (2, x)) hi (lvB_ok hb)
  exact lv_lstore_n h.1 h.2.1 dg rfl (lvH_has c) (by rw [h.2.2.1]; exact hn) rfl (fun ls' h' => k H locs ls' cells slots a b (lvH_set2 c (by rw [h.2.2.1]; exact hn) hE.1 hE.2 ls' h') e f)
theorem g_dstore_g {i : Nat} {x : Int} (h : Ok X E own cc nL d) (dg : decode cc pc = .ok (.dstore i, 2)) (hi : i + 1 < lv.length) (hn : i + 1 < nL) (hb : lvB lv i = true) (hp : pc + 2 = pc') (k : GG X bc bs w pc' ((lv.set i (4, x)).set (i + 1) (9, 0)) st) : GG X bc bs w pc lv (vD x :: st) := by
  subst hp
  intro H locs ls cells slots a b c e f
  have hE := lvE2 (q := (4, x)) hi (lvB_ok hb)
  exact lv_dstore h.1 h.2.1 dg (lvH_has c) (by rw [h.2.2.1]; exact hn) rfl (fun ls' h' => k H locs ls' cells slots a b (lvH_set2 c (by rw [h.2.2.1]; exact hn) hE.1 hE.2 ls' h') e f)
theorem g_dstore_n_g {i : Fin 4} {x : Int} (h : Ok X E own cc nL d) (dg : decode cc pc = .ok (.dstore_n i, 1)) (hi : (i : Nat) + 1 < lv.length) (hn : (i : Nat) + 1 < nL) (hb : lvB lv (i : Nat) = true) (hp : pc + 1 = pc') (k : GG X bc bs w pc' ((lv.set (i : Nat) (4, x)).set ((i : Nat) + 1) (9, 0)) st) : GG X bc bs w pc lv (vD x :: st) := by
  subst hp
  intro H locs ls cells slots a b c e f
  have hE := lvE2 (q := (4, x)) hi (lvB_ok hb)
  exact lv_dstore_n h.1 h.2.1 dg rfl (lvH_has c) (by rw [h.2.2.1]; exact hn) rfl (fun ls' h' => k H locs ls' cells slots a b (lvH_set2 c (by rw [h.2.2.1]; exact hn) hE.1 hE.2 ls' h') e f)
theorem g_iinc_g {i : Nat} {n x : Int} (h : Ok X E own cc nL d) (dg : decode cc pc = .ok (.iinc i n, 3)) (hl : lv[i]? = some (0, x)) (hi : i < lv.length) (hn : i < nL) (hb : lvB lv i = true) (hp : pc + 3 = pc') (k : GG X bc bs w pc' (lv.set i (0, x + n)) st) : GG X bc bs w pc lv st := by
  subst hp
  intro H locs ls cells slots a b c e f
  have hE := lvE1 (q := (0, x + n)) hi (lvB_ok hb)
  obtain ⟨j, hj⟩ := List.getElem?_of_mem (lvC_mem hl (by decide : (0 : Nat) ≠ 9))
  exact lv_iinc (k := j) (x := Int32.ofInt x) h.1 h.2.1 dg (lvH_has c) hj (Int32.ofInt_add x n).symm (by rw [h.2.2.1]; exact hn) rfl (fun ls' h' => k H locs ls' cells slots a b (lvH_set1 (t := 0) c (by rw [h.2.2.1]; exact hn) hE.1 hE.2 ls' h') e f)
theorem g_istore_0 {q : Nat × Int} {r : List (Nat × Int)} {x : Int} (h : Ok X E own cc nL d) (dg : decode cc pc = .ok (.istore 0, 2)) (hn : 0 < nL) (hb : lvB (q :: r) 0 = true) (hp : pc + 2 = pc') (k : GG X bc bs w pc' ((0, x) :: r) st) : GG X bc bs w pc (q :: r) (vI x :: st) := g_istore_g h dg (by simp) hn hb hp k
theorem g_istore_n_0 {q : Nat × Int} {r : List (Nat × Int)} {x : Int} (h : Ok X E own cc nL d) (dg : decode cc pc = .ok (.istore_n 0, 1)) (hn : 0 < nL) (hb : lvB (q :: r) 0 = true) (hp : pc + 1 = pc') (k : GG X bc bs w pc' ((0, x) :: r) st) : GG X bc bs w pc (q :: r) (vI x :: st) := g_istore_n_g h dg (by show 0 < List.length _; simp only [List.length_cons]; omega) hn hb hp k
theorem g_fstore_0 {q : Nat × Int} {r : List (Nat × Int)} {x : Int} (h : Ok X E own cc nL d) (dg : decode cc pc = .ok (.fstore 0, 2)) (hn : 0 < nL) (hb : lvB (q :: r) 0 = true) (hp : pc + 2 = pc') (k : GG X bc bs w pc' ((3, x) :: r) st) : GG X bc bs w pc (q :: r) (vF x :: st) := g_fstore_g h dg (by simp) hn hb hp k
theorem g_fstore_n_0 {q : Nat × Int} {r : List (Nat × Int)} {x : Int} (h : Ok X E own cc nL d) (dg : decode cc pc = .ok (.fstore_n 0, 1)) (hn : 0 < nL) (hb : lvB (q :: r) 0 = true) (hp : pc + 1 = pc') (k : GG X bc bs w pc' ((3, x) :: r) st) : GG X bc bs w pc (q :: r) (vF x :: st) := g_fstore_n_g h dg (by show 0 < List.length _; simp only [List.length_cons]; omega) hn hb hp k
theorem g_astore_0 {q : Nat × Int} {r : List (Nat × Int)} {x : Int} (h : Ok X E own cc nL d) (dg : decode cc pc = .ok (.astore 0, 2)) (hn : 0 < nL) (hb : lvB (q :: r) 0 = true) (hp : pc + 2 = pc') (k : GG X bc bs w pc' ((1, x) :: r) st) : GG X bc bs w pc (q :: r) (vR x :: st) := g_astore_g h dg (by simp) hn hb hp k
theorem g_astore_n_0 {q : Nat × Int} {r : List (Nat × Int)} {x : Int} (h : Ok X E own cc nL d) (dg : decode cc pc = .ok (.astore_n 0, 1)) (hn : 0 < nL) (hb : lvB (q :: r) 0 = true) (hp : pc + 1 = pc') (k : GG X bc bs w pc' ((1, x) :: r) st) : GG X bc bs w pc (q :: r) (vR x :: st) := g_astore_n_g h dg (by show 0 < List.length _; simp only [List.length_cons]; omega) hn hb hp k
theorem g_lstore_0 {q q' : Nat × Int} {r : List (Nat × Int)} {x : Int} (h : Ok X E own cc nL d) (dg : decode cc pc = .ok (.lstore 0, 2)) (hn : 0 + 1 < nL) (hb : lvB (q :: q' :: r) 0 = true) (hp : pc + 2 = pc') (k : GG X bc bs w pc' ((2, x) :: (9, 0) :: r) st) : GG X bc bs w pc (q :: q' :: r) (vL x :: st) := g_lstore_g h dg (by simp) hn hb hp k
theorem g_lstore_n_0 {q q' : Nat × Int} {r : List (Nat × Int)} {x : Int} (h : Ok X E own cc nL d) (dg : decode cc pc = .ok (.lstore_n 0, 1)) (hn : 0 + 1 < nL) (hb : lvB (q :: q' :: r) 0 = true) (hp : pc + 1 = pc') (k : GG X bc bs w pc' ((2, x) :: (9, 0) :: r) st) : GG X bc bs w pc (q :: q' :: r) (vL x :: st) := g_lstore_n_g h dg (by show 0 + 1 < List.length _; simp only [List.length_cons]; omega) hn hb hp k
theorem g_dstore_0 {q q' : Nat × Int} {r : List (Nat × Int)} {x : Int} (h : Ok X E own cc nL d) (dg : decode cc pc = .ok (.dstore 0, 2)) (hn : 0 + 1 < nL) (hb : lvB (q :: q' :: r) 0 = true) (hp : pc + 2 = pc') (k : GG X bc bs w pc' ((4, x) :: (9, 0) :: r) st) : GG X bc bs w pc (q :: q' :: r) (vD x :: st) := g_dstore_g h dg (by simp) hn hb hp k
theorem g_dstore_n_0 {q q' : Nat × Int} {r : List (Nat × Int)} {x : Int} (h : Ok X E own cc nL d) (dg : decode cc pc = .ok (.dstore_n 0, 1)) (hn : 0 + 1 < nL) (hb : lvB (q :: q' :: r) 0 = true) (hp : pc + 1 = pc') (k : GG X bc bs w pc' ((4, x) :: (9, 0) :: r) st) : GG X bc bs w pc (q :: q' :: r) (vD x :: st) := g_dstore_n_g h dg (by show 0 + 1 < List.length _; simp only [List.length_cons]; omega) hn hb hp k
theorem g_iinc_0 {r : List (Nat × Int)} {n x : Int} (h : Ok X E own cc nL d) (dg : decode cc pc = .ok (.iinc 0 n, 3)) (hn : 0 < nL) (hb : lvB ((0, x) :: r) 0 = true) (hp : pc + 3 = pc') (k : GG X bc bs w pc' ((0, x + n) :: r) st) : GG X bc bs w pc ((0, x) :: r) st := g_iinc_g h dg rfl (by simp) hn hb hp k
theorem g_istore_1 {q0 : Nat × Int} {q : Nat × Int} {r : List (Nat × Int)} {x : Int} (h : Ok X E own cc nL d) (dg : decode cc pc = .ok (.istore 1, 2)) (hn : 1 < nL) (hb : lvB (q0 :: q :: r) 1 = true) (hp : pc + 2 = pc') (k : GG X bc bs w pc' (q0 :: (0, x) :: r) st) : GG X bc bs w pc (q0 :: q :: r) (vI x :: st) := g_istore_g h dg (by simp) hn hb hp k
theorem g_istore_n_1 {q0 : Nat × Int} {q : Nat × Int} {r : List (Nat × Int)} {x : Int} (h : Ok X E own cc nL d) (dg : decode cc pc = .ok (.istore_n 1, 1)) (hn : 1 < nL) (hb : lvB (q0 :: q :: r) 1 = true) (hp : pc + 1 = pc') (k : GG X bc bs w pc' (q0 :: (0, x) :: r) st) : GG X bc bs w pc (q0 :: q :: r) (vI x :: st) := g_istore_n_g h dg (by show 1 < List.length _; simp only [List.length_cons]; omega) hn hb hp k
theorem g_fstore_1 {q0 : Nat × Int} {q : Nat × Int} {r : List (Nat × Int)} {x : Int} (h : Ok X E own cc nL d) (dg : decode cc pc = .ok (.fstore 1, 2)) (hn : 1 < nL) (hb : lvB (q0 :: q :: r) 1 = true) (hp : pc + 2 = pc') (k : GG X bc bs w pc' (q0 :: (3, x) :: r) st) : GG X bc bs w pc (q0 :: q :: r) (vF x :: st) := g_fstore_g h dg (by simp) hn hb hp k
theorem g_fstore_n_1 {q0 : Nat × Int} {q : Nat × Int} {r : List (Nat × Int)} {x : Int} (h : Ok X E own cc nL d) (dg : decode cc pc = .ok (.fstore_n 1, 1)) (hn : 1 < nL) (hb : lvB (q0 :: q :: r) 1 = true) (hp : pc + 1 = pc') (k : GG X bc bs w pc' (q0 :: (3, x) :: r) st) : GG X bc bs w pc (q0 :: q :: r) (vF x :: st) := g_fstore_n_g h dg (by show 1 < List.length _; simp only [List.length_cons]; omega) hn hb hp k
theorem g_astore_1 {q0 : Nat × Int} {q : Nat × Int} {r : List (Nat × Int)} {x : Int} (h : Ok X E own cc nL d) (dg : decode cc pc = .ok (.astore 1, 2)) (hn : 1 < nL) (hb : lvB (q0 :: q :: r) 1 = true) (hp : pc + 2 = pc') (k : GG X bc bs w pc' (q0 :: (1, x) :: r) st) : GG X bc bs w pc (q0 :: q :: r) (vR x :: st) := g_astore_g h dg (by simp) hn hb hp k
theorem g_astore_n_1 {q0 : Nat × Int} {q : Nat × Int} {r : List (Nat × Int)} {x : Int} (h : Ok X E own cc nL d) (dg : decode cc pc = .ok (.astore_n 1, 1)) (hn : 1 < nL) (hb : lvB (q0 :: q :: r) 1 = true) (hp : pc + 1 = pc') (k : GG X bc bs w pc' (q0 :: (1, x) :: r) st) : GG X bc bs w pc (q0 :: q :: r) (vR x :: st) := g_astore_n_g h dg (by show 1 < List.length _; simp only [List.length_cons]; omega) hn hb hp k
theorem g_lstore_1 {q0 : Nat × Int} {q q' : Nat × Int} {r : List (Nat × Int)} {x : Int} (h : Ok X E own cc nL d) (dg : decode cc pc = .ok (.lstore 1, 2)) (hn : 1 + 1 < nL) (hb : lvB (q0 :: q :: q' :: r) 1 = true) (hp : pc + 2 = pc') (k : GG X bc bs w pc' (q0 :: (2, x) :: (9, 0) :: r) st) : GG X bc bs w pc (q0 :: q :: q' :: r) (vL x :: st) := g_lstore_g h dg (by simp) hn hb hp k
theorem g_lstore_n_1 {q0 : Nat × Int} {q q' : Nat × Int} {r : List (Nat × Int)} {x : Int} (h : Ok X E own cc nL d) (dg : decode cc pc = .ok (.lstore_n 1, 1)) (hn : 1 + 1 < nL) (hb : lvB (q0 :: q :: q' :: r) 1 = true) (hp : pc + 1 = pc') (k : GG X bc bs w pc' (q0 :: (2, x) :: (9, 0) :: r) st) : GG X bc bs w pc (q0 :: q :: q' :: r) (vL x :: st) := g_lstore_n_g h dg (by show 1 + 1 < List.length _; simp only [List.length_cons]; omega) hn hb hp k
theorem g_dstore_1 {q0 : Nat × Int} {q q' : Nat × Int} {r : List (Nat × Int)} {x : Int} (h : Ok X E own cc nL d) (dg : decode cc pc = .ok (.dstore 1, 2)) (hn : 1 + 1 < nL) (hb : lvB (q0 :: q :: q' :: r) 1 = true) (hp : pc + 2 = pc') (k : GG X bc bs w pc' (q0 :: (4, x) :: (9, 0) :: r) st) : GG X bc bs w pc (q0 :: q :: q' :: r) (vD x :: st) := g_dstore_g h dg (by simp) hn hb hp k
theorem g_dstore_n_1 {q0 : Nat × Int} {q q' : Nat × Int} {r : List (Nat × Int)} {x : Int} (h : Ok X E own cc nL d) (dg : decode cc pc = .ok (.dstore_n 1, 1)) (hn : 1 + 1 < nL) (hb : lvB (q0 :: q :: q' :: r) 1 = true) (hp : pc + 1 = pc') (k : GG X bc bs w pc' (q0 :: (4, x) :: (9, 0) :: r) st) : GG X bc bs w pc (q0 :: q :: q' :: r) (vD x :: st) := g_dstore_n_g h dg (by show 1 + 1 < List.length _; simp only [List.length_cons]; omega) hn hb hp k
theorem g_iinc_1 {q0 : Nat × Int} {r : List (Nat × Int)} {n x : Int} (h : Ok X E own cc nL d) (dg : decode cc pc = .ok (.iinc 1 n, 3)) (hn : 1 < nL) (hb : lvB (q0 :: (0, x) :: r) 1 = true) (hp : pc + 3 = pc') (k : GG X bc bs w pc' (q0 :: (0, x + n) :: r) st) : GG X bc bs w pc (q0 :: (0, x) :: r) st := g_iinc_g h dg rfl (by simp) hn hb hp k
theorem g_istore_2 {q0 q1 : Nat × Int} {q : Nat × Int} {r : List (Nat × Int)} {x : Int} (h : Ok X E own cc nL d) (dg : decode cc pc = .ok (.istore 2, 2)) (hn : 2 < nL) (hb : lvB (q0 :: q1 :: q :: r) 2 = true) (hp : pc + 2 = pc') (k : GG X bc bs w pc' (q0 :: q1 :: (0, x) :: r) st) : GG X bc bs w pc (q0 :: q1 :: q :: r) (vI x :: st) := g_istore_g h dg (by simp) hn hb hp k
theorem g_istore_n_2 {q0 q1 : Nat × Int} {q : Nat × Int} {r : List (Nat × Int)} {x : Int} (h : Ok X E own cc nL d) (dg : decode cc pc = .ok (.istore_n 2, 1)) (hn : 2 < nL) (hb : lvB (q0 :: q1 :: q :: r) 2 = true) (hp : pc + 1 = pc') (k : GG X bc bs w pc' (q0 :: q1 :: (0, x) :: r) st) : GG X bc bs w pc (q0 :: q1 :: q :: r) (vI x :: st) := g_istore_n_g h dg (by show 2 < List.length _; simp only [List.length_cons]; omega) hn hb hp k
theorem g_fstore_2 {q0 q1 : Nat × Int} {q : Nat × Int} {r : List (Nat × Int)} {x : Int} (h : Ok X E own cc nL d) (dg : decode cc pc = .ok (.fstore 2, 2)) (hn : 2 < nL) (hb : lvB (q0 :: q1 :: q :: r) 2 = true) (hp : pc + 2 = pc') (k : GG X bc bs w pc' (q0 :: q1 :: (3, x) :: r) st) : GG X bc bs w pc (q0 :: q1 :: q :: r) (vF x :: st) := g_fstore_g h dg (by simp) hn hb hp k
theorem g_fstore_n_2 {q0 q1 : Nat × Int} {q : Nat × Int} {r : List (Nat × Int)} {x : Int} (h : Ok X E own cc nL d) (dg : decode cc pc = .ok (.fstore_n 2, 1)) (hn : 2 < nL) (hb : lvB (q0 :: q1 :: q :: r) 2 = true) (hp : pc + 1 = pc') (k : GG X bc bs w pc' (q0 :: q1 :: (3, x) :: r) st) : GG X bc bs w pc (q0 :: q1 :: q :: r) (vF x :: st) := g_fstore_n_g h dg (by show 2 < List.length _; simp only [List.length_cons]; omega) hn hb hp k
theorem g_astore_2 {q0 q1 : Nat × Int} {q : Nat × Int} {r : List (Nat × Int)} {x : Int} (h : Ok X E own cc nL d) (dg : decode cc pc = .ok (.astore 2, 2)) (hn : 2 < nL) (hb : lvB (q0 :: q1 :: q :: r) 2 = true) (hp : pc + 2 = pc') (k : GG X bc bs w pc' (q0 :: q1 :: (1, x) :: r) st) : GG X bc bs w pc (q0 :: q1 :: q :: r) (vR x :: st) := g_astore_g h dg (by simp) hn hb hp k
theorem g_astore_n_2 {q0 q1 : Nat × Int} {q : Nat × Int} {r : List (Nat × Int)} {x : Int} (h : Ok X E own cc nL d) (dg : decode cc pc = .ok (.astore_n 2, 1)) (hn : 2 < nL) (hb : lvB (q0 :: q1 :: q :: r) 2 = true) (hp : pc + 1 = pc') (k : GG X bc bs w pc' (q0 :: q1 :: (1, x) :: r) st) : GG X bc bs w pc (q0 :: q1 :: q :: r) (vR x :: st) := g_astore_n_g h dg (by show 2 < List.length _; simp only [List.length_cons]; omega) hn hb hp k
theorem g_lstore_2 {q0 q1 : Nat × Int} {q q' : Nat × Int} {r : List (Nat × Int)} {x : Int} (h : Ok X E own cc nL d) (dg : decode cc pc = .ok (.lstore 2, 2)) (hn : 2 + 1 < nL) (hb : lvB (q0 :: q1 :: q :: q' :: r) 2 = true) (hp : pc + 2 = pc') (k : GG X bc bs w pc' (q0 :: q1 :: (2, x) :: (9, 0) :: r) st) : GG X bc bs w pc (q0 :: q1 :: q :: q' :: r) (vL x :: st) := g_lstore_g h dg (by simp) hn hb hp k
theorem g_lstore_n_2 {q0 q1 : Nat × Int} {q q' : Nat × Int} {r : List (Nat × Int)} {x : Int} (h : Ok X E own cc nL d) (dg : decode cc pc = .ok (.lstore_n 2, 1)) (hn : 2 + 1 < nL) (hb : lvB (q0 :: q1 :: q :: q' :: r) 2 = true) (hp : pc + 1 = pc') (k : GG X bc bs w pc' (q0 :: q1 :: (2, x) :: (9, 0) :: r) st) : GG X bc bs w pc (q0 :: q1 :: q :: q' :: r) (vL x :: st) := g_lstore_n_g h dg (by show 2 + 1 < List.length _; simp only [List.length_cons]; omega) hn hb hp k
theorem g_dstore_2 {q0 q1 : Nat × Int} {q q' : Nat × Int} {r : List (Nat × Int)} {x : Int} (h : Ok X E own cc nL d) (dg : decode cc pc = .ok (.dstore 2, 2)) (hn : 2 + 1 < nL) (hb : lvB (q0 :: q1 :: q :: q' :: r) 2 = true) (hp : pc + 2 = pc') (k : GG X bc bs w pc' (q0 :: q1 :: (4, x) :: (9, 0) :: r) st) : GG X bc bs w pc (q0 :: q1 :: q :: q' :: r) (vD x :: st) := g_dstore_g h dg (by simp) hn hb hp k
theorem g_dstore_n_2 {q0 q1 : Nat × Int} {q q' : Nat × Int} {r : List (Nat × Int)} {x : Int} (h : Ok X E own cc nL d) (dg : decode cc pc = .ok (.dstore_n 2, 1)) (hn : 2 + 1 < nL) (hb : lvB (q0 :: q1 :: q :: q' :: r) 2 = true) (hp : pc + 1 = pc') (k : GG X bc bs w pc' (q0 :: q1 :: (4, x) :: (9, 0) :: r) st) : GG X bc bs w pc (q0 :: q1 :: q :: q' :: r) (vD x :: st) := g_dstore_n_g h dg (by show 2 + 1 < List.length _; simp only [List.length_cons]; omega) hn hb hp k
theorem g_iinc_2 {q0 q1 : Nat × Int} {r : List (Nat × Int)} {n x : Int} (h : Ok X E own cc nL d) (dg : decode cc pc = .ok (.iinc 2 n, 3)) (hn : 2 < nL) (hb : lvB (q0 :: q1 :: (0, x) :: r) 2 = true) (hp : pc + 3 = pc') (k : GG X bc bs w pc' (q0 :: q1 :: (0, x + n) :: r) st) : GG X bc bs w pc (q0 :: q1 :: (0, x) :: r) st := g_iinc_g h dg rfl (by simp) hn hb hp k
theorem g_istore_3 {q0 q1 q2 : Nat × Int} {q : Nat × Int} {r : List (Nat × Int)} {x : Int} (h : Ok X E own cc nL d) (dg : decode cc pc = .ok (.istore 3, 2)) (hn : 3 < nL) (hb : lvB (q0 :: q1 :: q2 :: q :: r) 3 = true) (hp : pc + 2 = pc') (k : GG X bc bs w pc' (q0 :: q1 :: q2 :: (0, x) :: r) st) : GG X bc bs w pc (q0 :: q1 :: q2 :: q :: r) (vI x :: st) := g_istore_g h dg (by simp) hn hb hp k
theorem g_istore_n_3 {q0 q1 q2 : Nat × Int} {q : Nat × Int} {r : List (Nat × Int)} {x : Int} (h : Ok X E own cc nL d) (dg : decode cc pc = .ok (.istore_n 3, 1)) (hn : 3 < nL) (hb : lvB (q0 :: q1 :: q2 :: q :: r) 3 = true) (hp : pc + 1 = pc') (k : GG X bc bs w pc' (q0 :: q1 :: q2 :: (0, x) :: r) st) : GG X bc bs w pc (q0 :: q1 :: q2 :: q :: r) (vI x :: st) := g_istore_n_g h dg (by show 3 < List.length _; simp only [List.length_cons]; omega) hn hb hp k
theorem g_fstore_3 {q0 q1 q2 : Nat × Int} {q : Nat × Int} {r : List (Nat × Int)} {x : Int} (h : Ok X E own cc nL d) (dg : decode cc pc = .ok (.fstore 3, 2)) (hn : 3 < nL) (hb : lvB (q0 :: q1 :: q2 :: q :: r) 3 = true) (hp : pc + 2 = pc') (k : GG X bc bs w pc' (q0 :: q1 :: q2 :: (3, x) :: r) st) : GG X bc bs w pc (q0 :: q1 :: q2 :: q :: r) (vF x :: st) := g_fstore_g h dg (by simp) hn hb hp k
theorem g_fstore_n_3 {q0 q1 q2 : Nat × Int} {q : Nat × Int} {r : List (Nat × Int)} {x : Int} (h : Ok X E own cc nL d) (dg : decode cc pc = .ok (.fstore_n 3, 1)) (hn : 3 < nL) (hb : lvB (q0 :: q1 :: q2 :: q :: r) 3 = true) (hp : pc + 1 = pc') (k : GG X bc bs w pc' (q0 :: q1 :: q2 :: (3, x) :: r) st) : GG X bc bs w pc (q0 :: q1 :: q2 :: q :: r) (vF x :: st) := g_fstore_n_g h dg (by show 3 < List.length _; simp only [List.length_cons]; omega) hn hb hp k
theorem g_astore_3 {q0 q1 q2 : Nat × Int} {q : Nat × Int} {r : List (Nat × Int)} {x : Int} (h : Ok X E own cc nL d) (dg : decode cc pc = .ok (.astore 3, 2)) (hn : 3 < nL) (hb : lvB (q0 :: q1 :: q2 :: q :: r) 3 = true) (hp : pc + 2 = pc') (k : GG X bc bs w pc' (q0 :: q1 :: q2 :: (1, x) :: r) st) : GG X bc bs w pc (q0 :: q1 :: q2 :: q :: r) (vR x :: st) := g_astore_g h dg (by simp) hn hb hp k
theorem g_astore_n_3 {q0 q1 q2 : Nat × Int} {q : Nat × Int} {r : List (Nat × Int)} {x : Int} (h : Ok X E own cc nL d) (dg : decode cc pc = .ok (.astore_n 3, 1)) (hn : 3 < nL) (hb : lvB (q0 :: q1 :: q2 :: q :: r) 3 = true) (hp : pc + 1 = pc') (k : GG X bc bs w pc' (q0 :: q1 :: q2 :: (1, x) :: r) st) : GG X bc bs w pc (q0 :: q1 :: q2 :: q :: r) (vR x :: st) := g_astore_n_g h dg (by show 3 < List.length _; simp only [List.length_cons]; omega) hn hb hp k
theorem g_lstore_3 {q0 q1 q2 : Nat × Int} {q q' : Nat × Int} {r : List (Nat × Int)} {x : Int} (h : Ok X E own cc nL d) (dg : decode cc pc = .ok (.lstore 3, 2)) (hn : 3 + 1 < nL) (hb : lvB (q0 :: q1 :: q2 :: q :: q' :: r) 3 = true) (hp : pc + 2 = pc') (k : GG X bc bs w pc' (q0 :: q1 :: q2 :: (2, x) :: (9, 0) :: r) st) : GG X bc bs w pc (q0 :: q1 :: q2 :: q :: q' :: r) (vL x :: st) := g_lstore_g h dg (by simp) hn hb hp k
theorem g_lstore_n_3 {q0 q1 q2 : Nat × Int} {q q' : Nat × Int} {r : List (Nat × Int)} {x : Int} (h : Ok X E own cc nL d) (dg : decode cc pc = .ok (.lstore_n 3, 1)) (hn : 3 + 1 < nL) (hb : lvB (q0 :: q1 :: q2 :: q :: q' :: r) 3 = true) (hp : pc + 1 = pc') (k : GG X bc bs w pc' (q0 :: q1 :: q2 :: (2, x) :: (9, 0) :: r) st) : GG X bc bs w pc (q0 :: q1 :: q2 :: q :: q' :: r) (vL x :: st) := g_lstore_n_g h dg (by show 3 + 1 < List.length _; simp only [List.length_cons]; omega) hn hb hp k
theorem g_dstore_3 {q0 q1 q2 : Nat × Int} {q q' : Nat × Int} {r : List (Nat × Int)} {x : Int} (h : Ok X E own cc nL d) (dg : decode cc pc = .ok (.dstore 3, 2)) (hn : 3 + 1 < nL) (hb : lvB (q0 :: q1 :: q2 :: q :: q' :: r) 3 = true) (hp : pc + 2 = pc') (k : GG X bc bs w pc' (q0 :: q1 :: q2 :: (4, x) :: (9, 0) :: r) st) : GG X bc bs w pc (q0 :: q1 :: q2 :: q :: q' :: r) (vD x :: st) := g_dstore_g h dg (by simp) hn hb hp k
theorem g_dstore_n_3 {q0 q1 q2 : Nat × Int} {q q' : Nat × Int} {r : List (Nat × Int)} {x : Int} (h : Ok X E own cc nL d) (dg : decode cc pc = .ok (.dstore_n 3, 1)) (hn : 3 + 1 < nL) (hb : lvB (q0 :: q1 :: q2 :: q :: q' :: r) 3 = true) (hp : pc + 1 = pc') (k : GG X bc bs w pc' (q0 :: q1 :: q2 :: (4, x) :: (9, 0) :: r) st) : GG X bc bs w pc (q0 :: q1 :: q2 :: q :: q' :: r) (vD x :: st) := g_dstore_n_g h dg (by show 3 + 1 < List.length _; simp only [List.length_cons]; omega) hn hb hp k
theorem g_iinc_3 {q0 q1 q2 : Nat × Int} {r : List (Nat × Int)} {n x : Int} (h : Ok X E own cc nL d) (dg : decode cc pc = .ok (.iinc 3 n, 3)) (hn : 3 < nL) (hb : lvB (q0 :: q1 :: q2 :: (0, x) :: r) 3 = true) (hp : pc + 3 = pc') (k : GG X bc bs w pc' (q0 :: q1 :: q2 :: (0, x + n) :: r) st) : GG X bc bs w pc (q0 :: q1 :: q2 :: (0, x) :: r) st := g_iinc_g h dg rfl (by simp) hn hb hp k
theorem g_istore_4 {q0 q1 q2 q3 : Nat × Int} {q : Nat × Int} {r : List (Nat × Int)} {x : Int} (h : Ok X E own cc nL d) (dg : decode cc pc = .ok (.istore 4, 2)) (hn : 4 < nL) (hb : lvB (q0 :: q1 :: q2 :: q3 :: q :: r) 4 = true) (hp : pc + 2 = pc') (k : GG X bc bs w pc' (q0 :: q1 :: q2 :: q3 :: (0, x) :: r) st) : GG X bc bs w pc (q0 :: q1 :: q2 :: q3 :: q :: r) (vI x :: st) := g_istore_g h dg (by simp) hn hb hp k
theorem g_fstore_4 {q0 q1 q2 q3 : Nat × Int} {q : Nat × Int} {r : List (Nat × Int)} {x : Int} (h : Ok X E own cc nL d) (dg : decode cc pc = .ok (.fstore 4, 2)) (hn : 4 < nL) (hb : lvB (q0 :: q1 :: q2 :: q3 :: q :: r) 4 = true) (hp : pc + 2 = pc') (k : GG X bc bs w pc' (q0 :: q1 :: q2 :: q3 :: (3, x) :: r) st) : GG X bc bs w pc (q0 :: q1 :: q2 :: q3 :: q :: r) (vF x :: st) := g_fstore_g h dg (by simp) hn hb hp k
theorem g_astore_4 {q0 q1 q2 q3 : Nat × Int} {q : Nat × Int} {r : List (Nat × Int)} {x : Int} (h : Ok X E own cc nL d) (dg : decode cc pc = .ok (.astore 4, 2)) (hn : 4 < nL) (hb : lvB (q0 :: q1 :: q2 :: q3 :: q :: r) 4 = true) (hp : pc + 2 = pc') (k : GG X bc bs w pc' (q0 :: q1 :: q2 :: q3 :: (1, x) :: r) st) : GG X bc bs w pc (q0 :: q1 :: q2 :: q3 :: q :: r) (vR x :: st) := g_astore_g h dg (by simp) hn hb hp k
theorem g_lstore_4 {q0 q1 q2 q3 : Nat × Int} {q q' : Nat × Int} {r : List (Nat × Int)} {x : Int} (h : Ok X E own cc nL d) (dg : decode cc pc = .ok (.lstore 4, 2)) (hn : 4 + 1 < nL) (hb : lvB (q0 :: q1 :: q2 :: q3 :: q :: q' :: r) 4 = true) (hp : pc + 2 = pc') (k : GG X bc bs w pc' (q0 :: q1 :: q2 :: q3 :: (2, x) :: (9, 0) :: r) st) : GG X bc bs w pc (q0 :: q1 :: q2 :: q3 :: q :: q' :: r) (vL x :: st) := g_lstore_g h dg (by simp) hn hb hp k
theorem g_dstore_4 {q0 q1 q2 q3 : Nat × Int} {q q' : Nat × Int} {r : List (Nat × Int)} {x : Int} (h : Ok X E own cc nL d) (dg : decode cc pc = .ok (.dstore 4, 2)) (hn : 4 + 1 < nL) (hb : lvB (q0 :: q1 :: q2 :: q3 :: q :: q' :: r) 4 = true) (hp : pc + 2 = pc') (k : GG X bc bs w pc' (q0 :: q1 :: q2 :: q3 :: (4, x) :: (9, 0) :: r) st) : GG X bc bs w pc (q0 :: q1 :: q2 :: q3 :: q :: q' :: r) (vD x :: st) := g_dstore_g h dg (by simp) hn hb hp k
theorem g_iinc_4 {q0 q1 q2 q3 : Nat × Int} {r : List (Nat × Int)} {n x : Int} (h : Ok X E own cc nL d) (dg : decode cc pc = .ok (.iinc 4 n, 3)) (hn : 4 < nL) (hb : lvB (q0 :: q1 :: q2 :: q3 :: (0, x) :: r) 4 = true) (hp : pc + 3 = pc') (k : GG X bc bs w pc' (q0 :: q1 :: q2 :: q3 :: (0, x + n) :: r) st) : GG X bc bs w pc (q0 :: q1 :: q2 :: q3 :: (0, x) :: r) st := g_iinc_g h dg rfl (by simp) hn hb hp k
theorem g_istore_5 {q0 q1 q2 q3 q4 : Nat × Int} {q : Nat × Int} {r : List (Nat × Int)} {x : Int} (h : Ok X E own cc nL d) (dg : decode cc pc = .ok (.istore 5, 2)) (hn : 5 < nL) (hb : lvB (q0 :: q1 :: q2 :: q3 :: q4 :: q :: r) 5 = true) (hp : pc + 2 = pc') (k : GG X bc bs w pc' (q0 :: q1 :: q2 :: q3 :: q4 :: (0, x) :: r) st) : GG X bc bs w pc (q0 :: q1 :: q2 :: q3 :: q4 :: q :: r) (vI x :: st) := g_istore_g h dg (by simp) hn hb hp k
theorem g_fstore_5 {q0 q1 q2 q3 q4 : Nat × Int} {q : Nat × Int} {r : List (Nat × Int)} {x : Int} (h : Ok X E own cc nL d) (dg : decode cc pc = .ok (.fstore 5, 2)) (hn : 5 < nL) (hb : lvB (q0 :: q1 :: q2 :: q3 :: q4 :: q :: r) 5 = true) (hp : pc + 2 = pc') (k : GG X bc bs w pc' (q0 :: q1 :: q2 :: q3 :: q4 :: (3, x) :: r) st) : GG X bc bs w pc (q0 :: q1 :: q2 :: q3 :: q4 :: q :: r) (vF x :: st) := g_fstore_g h dg (by simp) hn hb hp k
theorem g_astore_5 {q0 q1 q2 q3 q4 : Nat × Int} {q : Nat × Int} {r : List (Nat × Int)} {x : Int} (h : Ok X E own cc nL d) (dg : decode cc pc = .ok (.astore 5, 2)) (hn : 5 < nL) (hb : lvB (q0 :: q1 :: q2 :: q3 :: q4 :: q :: r) 5 = true) (hp : pc + 2 = pc') (k : GG X bc bs w pc' (q0 :: q1 :: q2 :: q3 :: q4 :: (1, x) :: r) st) : GG X bc bs w pc (q0 :: q1 :: q2 :: q3 :: q4 :: q :: r) (vR x :: st) := g_astore_g h dg (by simp) hn hb hp k
theorem g_lstore_5 {q0 q1 q2 q3 q4 : Nat × Int} {q q' : Nat × Int} {r : List (Nat × Int)} {x : Int} (h : Ok X E own cc nL d) (dg : decode cc pc = .ok (.lstore 5, 2)) (hn : 5 + 1 < nL) (hb : lvB (q0 :: q1 :: q2 :: q3 :: q4 :: q :: q' :: r) 5 = true) (hp : pc + 2 = pc') (k : GG X bc bs w pc' (q0 :: q1 :: q2 :: q3 :: q4 :: (2, x) :: (9, 0) :: r) st) : GG X bc bs w pc (q0 :: q1 :: q2 :: q3 :: q4 :: q :: q' :: r) (vL x :: st) := g_lstore_g h dg (by simp) hn hb hp k
theorem g_dstore_5 {q0 q1 q2 q3 q4 : Nat × Int} {q q' : Nat × Int} {r : List (Nat × Int)} {x : Int} (h : Ok X E own cc nL d) (dg : decode cc pc = .ok (.dstore 5, 2)) (hn : 5 + 1 < nL) (hb : lvB (q0 :: q1 :: q2 :: q3 :: q4 :: q :: q' :: r) 5 = true) (hp : pc + 2 = pc') (k : GG X bc bs w pc' (q0 :: q1 :: q2 :: q3 :: q4 :: (4, x) :: (9, 0) :: r) st) : GG X bc bs w pc (q0 :: q1 :: q2 :: q3 :: q4 :: q :: q' :: r) (vD x :: st) := g_dstore_g h dg (by simp) hn hb hp k
theorem g_iinc_5 {q0 q1 q2 q3 q4 : Nat × Int} {r : List (Nat × Int)} {n x : Int} (h : Ok X E own cc nL d) (dg : decode cc pc = .ok (.iinc 5 n, 3)) (hn : 5 < nL) (hb : lvB (q0 :: q1 :: q2 :: q3 :: q4 :: (0, x) :: r) 5 = true) (hp : pc + 3 = pc') (k : GG X bc bs w pc' (q0 :: q1 :: q2 :: q3 :: q4 :: (0, x + n) :: r) st) : GG X bc bs w pc (q0 :: q1 :: q2 :: q3 :: q4 :: (0, x) :: r) st := g_iinc_g h dg rfl (by simp) hn hb hp k
theorem g_istore_6 {q0 q1 q2 q3 q4 q5 : Nat × Int} {q : Nat × Int} {r : List (Nat × Int)} {x : Int} (h : Ok X E own cc nL d) (dg : decode cc pc = .ok (.istore 6, 2)) (hn : 6 < nL) (hb : lvB (q0 :: q1 :: q2 :: q3 :: q4 :: q5 :: q :: r) 6 = true) (hp : pc + 2 = pc') (k : GG X bc bs w pc' (q0 :: q1 :: q2 :: q3 :: q4 :: q5 :: (0, x) :: r) st) : GG X bc bs w pc (q0 :: q1 :: q2 :: q3 :: q4 :: q5 :: q :: r) (vI x :: st) := g_istore_g h dg (by simp) hn hb hp k
theorem g_fstore_6 {q0 q1 q2 q3 q4 q5 : Nat × Int} {q : Nat × Int} {r : List (Nat × Int)} {x : Int} (h : Ok X E own cc nL d) (dg : decode cc pc = .ok (.fstore 6, 2)) (hn : 6 < nL) (hb : lvB (q0 :: q1 :: q2 :: q3 :: q4 :: q5 :: q :: r) 6 = true) (hp : pc + 2 = pc') (k : GG X bc bs w pc' (q0 :: q1 :: q2 :: q3 :: q4 :: q5 :: (3, x) :: r) st) : GG X bc bs w pc (q0 :: q1 :: q2 :: q3 :: q4 :: q5 :: q :: r) (vF x :: st) := g_fstore_g h dg (by simp) hn hb hp k
theorem g_astore_6 {q0 q1 q2 q3 q4 q5 : Nat × Int} {q : Nat × Int} {r : List (Nat × Int)} {x : Int} (h : Ok X E own cc nL d) (dg : decode cc pc = .ok (.astore 6, 2)) (hn : 6 < nL) (hb : lvB (q0 :: q1 :: q2 :: q3 :: q4 :: q5 :: q :: r) 6 = true) (hp : pc + 2 = pc') (k : GG X bc bs w pc' (q0 :: q1 :: q2 :: q3 :: q4 :: q5 :: (1, x) :: r) st) : GG X bc bs w pc (q0 :: q1 :: q2 :: q3 :: q4 :: q5 :: q :: r) (vR x :: st) := g_astore_g h dg (by simp) hn hb hp k
theorem g_lstore_6 {q0 q1 q2 q3 q4 q5 : Nat × Int} {q q' : Nat × Int} {r : List (Nat × Int)} {x : Int} (h : Ok X E own cc nL d) (dg : decode cc pc = .ok (.lstore 6, 2)) (hn : 6 + 1 < nL) (hb : lvB (q0 :: q1 :: q2 :: q3 :: q4 :: q5 :: q :: q' :: r) 6 = true) (hp : pc + 2 = pc') (k : GG X bc bs w pc' (q0 :: q1 :: q2 :: q3 :: q4 :: q5 :: (2, x) :: (9, 0) :: r) st) : GG X bc bs w pc (q0 :: q1 :: q2 :: q3 :: q4 :: q5 :: q :: q' :: r) (vL x :: st) := g_lstore_g h dg (by simp) hn hb hp k
theorem g_dstore_6 {q0 q1 q2 q3 q4 q5 : Nat × Int} {q q' : Nat × Int} {r : List (Nat × Int)} {x : Int} (h : Ok X E own cc nL d) (dg : decode cc pc = .ok (.dstore 6, 2)) (hn : 6 + 1 < nL) (hb : lvB (q0 :: q1 :: q2 :: q3 :: q4 :: q5 :: q :: q' :: r) 6 = true) (hp : pc + 2 = pc') (k : GG X bc bs w pc' (q0 :: q1 :: q2 :: q3 :: q4 :: q5 :: (4, x) :: (9, 0) :: r) st) : GG X bc bs w pc (q0 :: q1 :: q2 :: q3 :: q4 :: q5 :: q :: q' :: r) (vD x :: st) := g_dstore_g h dg (by simp) hn hb hp k
theorem g_iinc_6 {q0 q1 q2 q3 q4 q5 : Nat × Int} {r : List (Nat × Int)} {n x : Int} (h : Ok X E own cc nL d) (dg : decode cc pc = .ok (.iinc 6 n, 3)) (hn : 6 < nL) (hb : lvB (q0 :: q1 :: q2 :: q3 :: q4 :: q5 :: (0, x) :: r) 6 = true) (hp : pc + 3 = pc') (k : GG X bc bs w pc' (q0 :: q1 :: q2 :: q3 :: q4 :: q5 :: (0, x + n) :: r) st) : GG X bc bs w pc (q0 :: q1 :: q2 :: q3 :: q4 :: q5 :: (0, x) :: r) st := g_iinc_g h dg rfl (by simp) hn hb hp k
theorem g_istore_7 {q0 q1 q2 q3 q4 q5 q6 : Nat × Int} {q : Nat × Int} {r : List (Nat × Int)} {x : Int} (h : Ok X E own cc nL d) (dg : decode cc pc = .ok (.istore 7, 2)) (hn : 7 < nL) (hb : lvB (q0 :: q1 :: q2 :: q3 :: q4 :: q5 :: q6 :: q :: r) 7 = true) (hp : pc + 2 = pc') (k : GG X bc bs w pc' (q0 :: q1 :: q2 :: q3 :: q4 :: q5 :: q6 :: (0, x) :: r) st) : GG X bc bs w pc (q0 :: q1 :: q2 :: q3 :: q4 :: q5 :: q6 :: q :: r) (vI x :: st) := g_istore_g h dg (by simp) hn hb hp k
theorem g_astore_7 {q0 q1 q2 q3 q4 q5 q6 : Nat × Int} {q : Nat × Int} {r : List (Nat × Int)} {x : Int} (h : Ok X E own cc nL d) (dg : decode cc pc = .ok (.astore 7, 2)) (hn : 7 < nL) (hb : lvB (q0 :: q1 :: q2 :: q3 :: q4 :: q5 :: q6 :: q :: r) 7 = true) (hp : pc + 2 = pc') (k : GG X bc bs w pc' (q0 :: q1 :: q2 :: q3 :: q4 :: q5 :: q6 :: (1, x) :: r) st) : GG X bc bs w pc (q0 :: q1 :: q2 :: q3 :: q4 :: q5 :: q6 :: q :: r) (vR x :: st) := g_astore_g h dg (by simp) hn hb hp k
theorem g_lstore_7 {q0 q1 q2 q3 q4 q5 q6 : Nat × Int} {q q' : Nat × Int} {r : List (Nat × Int)} {x : Int} (h : Ok X E own cc nL d) (dg : decode cc pc = .ok (.lstore 7, 2)) (hn : 7 + 1 < nL) (hb : lvB (q0 :: q1 :: q2 :: q3 :: q4 :: q5 :: q6 :: q :: q' :: r) 7 = true) (hp : pc + 2 = pc') (k : GG X bc bs w pc' (q0 :: q1 :: q2 :: q3 :: q4 :: q5 :: q6 :: (2, x) :: (9, 0) :: r) st) : GG X bc bs w pc (q0 :: q1 :: q2 :: q3 :: q4 :: q5 :: q6 :: q :: q' :: r) (vL x :: st) := g_lstore_g h dg (by simp) hn hb hp k
theorem g_dstore_7 {q0 q1 q2 q3 q4 q5 q6 : Nat × Int} {q q' : Nat × Int} {r : List (Nat × Int)} {x : Int} (h : Ok X E own cc nL d) (dg : decode cc pc = .ok (.dstore 7, 2)) (hn : 7 + 1 < nL) (hb : lvB (q0 :: q1 :: q2 :: q3 :: q4 :: q5 :: q6 :: q :: q' :: r) 7 = true) (hp : pc + 2 = pc') (k : GG X bc bs w pc' (q0 :: q1 :: q2 :: q3 :: q4 :: q5 :: q6 :: (4, x) :: (9, 0) :: r) st) : GG X bc bs w pc (q0 :: q1 :: q2 :: q3 :: q4 :: q5 :: q6 :: q :: q' :: r) (vD x :: st) := g_dstore_g h dg (by simp) hn hb hp k
theorem g_iinc_7 {q0 q1 q2 q3 q4 q5 q6 : Nat × Int} {r : List (Nat × Int)} {n x : Int} (h : Ok X E own cc nL d) (dg : decode cc pc = .ok (.iinc 7 n, 3)) (hn : 7 < nL) (hb : lvB (q0 :: q1 :: q2 :: q3 :: q4 :: q5 :: q6 :: (0, x) :: r) 7 = true) (hp : pc + 3 = pc') (k : GG X bc bs w pc' (q0 :: q1 :: q2 :: q3 :: q4 :: q5 :: q6 :: (0, x + n) :: r) st) : GG X bc bs w pc (q0 :: q1 :: q2 :: q3 :: q4 :: q5 :: q6 :: (0, x) :: r) st := g_iinc_g h dg rfl (by simp) hn hb hp k
theorem g_istore_8 {q0 q1 q2 q3 q4 q5 q6 q7 : Nat × Int} {q : Nat × Int} {r : List (Nat × Int)} {x : Int} (h : Ok X E own cc nL d) (dg : decode cc pc = .ok (.istore 8, 2)) (hn : 8 < nL) (hb : lvB (q0 :: q1 :: q2 :: q3 :: q4 :: q5 :: q6 :: q7 :: q :: r) 8 = true) (hp : pc + 2 = pc') (k : GG X bc bs w pc' (q0 :: q1 :: q2 :: q3 :: q4 :: q5 :: q6 :: q7 :: (0, x) :: r) st) : GG X bc bs w pc (q0 :: q1 :: q2 :: q3 :: q4 :: q5 :: q6 :: q7 :: q :: r) (vI x :: st) := g_istore_g h dg (by simp) hn hb hp k
theorem g_astore_8 {q0 q1 q2 q3 q4 q5 q6 q7 : Nat × Int} {q : Nat × Int} {r : List (Nat × Int)} {x : Int} (h : Ok X E own cc nL d) (dg : decode cc pc = .ok (.astore 8, 2)) (hn : 8 < nL) (hb : lvB (q0 :: q1 :: q2 :: q3 :: q4 :: q5 :: q6 :: q7 :: q :: r) 8 = true) (hp : pc + 2 = pc') (k : GG X bc bs w pc' (q0 :: q1 :: q2 :: q3 :: q4 :: q5 :: q6 :: q7 :: (1, x) :: r) st) : GG X bc bs w pc (q0 :: q1 :: q2 :: q3 :: q4 :: q5 :: q6 :: q7 :: q :: r) (vR x :: st) := g_astore_g h dg (by simp) hn hb hp k
theorem g_lstore_8 {q0 q1 q2 q3 q4 q5 q6 q7 : Nat × Int} {q q' : Nat × Int} {r : List (Nat × Int)} {x : Int} (h : Ok X E own cc nL d) (dg : decode cc pc = .ok (.lstore 8, 2)) (hn : 8 + 1 < nL) (hb : lvB (q0 :: q1 :: q2 :: q3 :: q4 :: q5 :: q6 :: q7 :: q :: q' :: r) 8 = true) (hp : pc + 2 = pc') (k : GG X bc bs w pc' (q0 :: q1 :: q2 :: q3 :: q4 :: q5 :: q6 :: q7 :: (2, x) :: (9, 0) :: r) st) : GG X bc bs w pc (q0 :: q1 :: q2 :: q3 :: q4 :: q5 :: q6 :: q7 :: q :: q' :: r) (vL x :: st) := g_lstore_g h dg (by simp) hn hb hp k
theorem g_dstore_8 {q0 q1 q2 q3 q4 q5 q6 q7 : Nat × Int} {q q' : Nat × Int} {r : List (Nat × Int)} {x : Int} (h : Ok X E own cc nL d) (dg : decode cc pc = .ok (.dstore 8, 2)) (hn : 8 + 1 < nL) (hb : lvB (q0 :: q1 :: q2 :: q3 :: q4 :: q5 :: q6 :: q7 :: q :: q' :: r) 8 = true) (hp : pc + 2 = pc') (k : GG X bc bs w pc' (q0 :: q1 :: q2 :: q3 :: q4 :: q5 :: q6 :: q7 :: (4, x) :: (9, 0) :: r) st) : GG X bc bs w pc (q0 :: q1 :: q2 :: q3 :: q4 :: q5 :: q6 :: q7 :: q :: q' :: r) (vD x :: st) := g_dstore_g h dg (by simp) hn hb hp k
theorem g_iinc_8 {q0 q1 q2 q3 q4 q5 q6 q7 : Nat × Int} {r : List (Nat × Int)} {n x : Int} (h : Ok X E own cc nL d) (dg : decode cc pc = .ok (.iinc 8 n, 3)) (hn : 8 < nL) (hb : lvB (q0 :: q1 :: q2 :: q3 :: q4 :: q5 :: q6 :: q7 :: (0, x) :: r) 8 = true) (hp : pc + 3 = pc') (k : GG X bc bs w pc' (q0 :: q1 :: q2 :: q3 :: q4 :: q5 :: q6 :: q7 :: (0, x + n) :: r) st) : GG X bc bs w pc (q0 :: q1 :: q2 :: q3 :: q4 :: q5 :: q6 :: q7 :: (0, x) :: r) st := g_iinc_g h dg rfl (by simp) hn hb hp k
theorem g_istore_9 {q0 q1 q2 q3 q4 q5 q6 q7 q8 : Nat × Int} {q : Nat × Int} {r : List (Nat × Int)} {x : Int} (h : Ok X E own cc nL d) (dg : decode cc pc = .ok (.istore 9, 2)) (hn : 9 < nL) (hb : lvB (q0 :: q1 :: q2 :: q3 :: q4 :: q5 :: q6 :: q7 :: q8 :: q :: r) 9 = true) (hp : pc + 2 = pc') (k : GG X bc bs w pc' (q0 :: q1 :: q2 :: q3 :: q4 :: q5 :: q6 :: q7 :: q8 :: (0, x) :: r) st) : GG X bc bs w pc (q0 :: q1 :: q2 :: q3 :: q4 :: q5 :: q6 :: q7 :: q8 :: q :: r) (vI x :: st) := g_istore_g h dg (by simp) hn hb hp k
theorem g_astore_9 {q0 q1 q2 q3 q4 q5 q6 q7 q8 : Nat × Int} {q : Nat × Int} {r : List (Nat × Int)} {x : Int} (h : Ok X E own cc nL d) (dg : decode cc pc = .ok (.astore 9, 2)) (hn : 9 < nL) (hb : lvB (q0 :: q1 :: q2 :: q3 :: q4 :: q5 :: q6 :: q7 :: q8 :: q :: r) 9 = true) (hp : pc + 2 = pc') (k : GG X bc bs w pc' (q0 :: q1 :: q2 :: q3 :: q4 :: q5 :: q6 :: q7 :: q8 :: (1, x) :: r) st) : GG X bc bs w pc (q0 :: q1 :: q2 :: q3 :: q4 :: q5 :: q6 :: q7 :: q8 :: q :: r) (vR x :: st) := g_astore_g h dg (by simp) hn hb hp k
theorem g_lstore_9 {q0 q1 q2 q3 q4 q5 q6 q7 q8 : Nat × Int} {q q' : Nat × Int} {r : List (Nat × Int)} {x : Int} (h : Ok X E own cc nL d) (dg : decode cc pc = .ok (.lstore 9, 2)) (hn : 9 + 1 < nL) (hb : lvB (q0 :: q1 :: q2 :: q3 :: q4 :: q5 :: q6 :: q7 :: q8 :: q :: q' :: r) 9 = true) (hp : pc + 2 = pc') (k : GG X bc bs w pc' (q0 :: q1 :: q2 :: q3 :: q4 :: q5 :: q6 :: q7 :: q8 :: (2, x) :: (9, 0) :: r) st) : GG X bc bs w pc (q0 :: q1 :: q2 :: q3 :: q4 :: q5 :: q6 :: q7 :: q8 :: q :: q' :: r) (vL x :: st) := g_lstore_g h dg (by simp) hn hb hp k
theorem g_dstore_9 {q0 q1 q2 q3 q4 q5 q6 q7 q8 : Nat × Int} {q q' : Nat × Int} {r : List (Nat × Int)} {x : Int} (h : Ok X E own cc nL d) (dg : decode cc pc = .ok (.dstore 9, 2)) (hn : 9 + 1 < nL) (hb : lvB (q0 :: q1 :: q2 :: q3 :: q4 :: q5 :: q6 :: q7 :: q8 :: q :: q' :: r) 9 = true) (hp : pc + 2 = pc') (k : GG X bc bs w pc' (q0 :: q1 :: q2 :: q3 :: q4 :: q5 :: q6 :: q7 :: q8 :: (4, x) :: (9, 0) :: r) st) : GG X bc bs w pc (q0 :: q1 :: q2 :: q3 :: q4 :: q5 :: q6 :: q7 :: q8 :: q :: q' :: r) (vD x :: st) := g_dstore_g h dg (by simp) hn hb hp k
theorem g_iinc_9 {q0 q1 q2 q3 q4 q5 q6 q7 q8 : Nat × Int} {r : List (Nat × Int)} {n x : Int} (h : Ok X E own cc nL d) (dg : decode cc pc = .ok (.iinc 9 n, 3)) (hn : 9 < nL) (hb : lvB (q0 :: q1 :: q2 :: q3 :: q4 :: q5 :: q6 :: q7 :: q8 :: (0, x) :: r) 9 = true) (hp : pc + 3 = pc') (k : GG X bc bs w pc' (q0 :: q1 :: q2 :: q3 :: q4 :: q5 :: q6 :: q7 :: q8 :: (0, x + n) :: r) st) : GG X bc bs w pc (q0 :: q1 :: q2 :: q3 :: q4 :: q5 :: q6 :: q7 :: q8 :: (0, x) :: r) st := g_iinc_g h dg rfl (by simp) hn hb hp k
theorem g_istore_10 {q0 q1 q2 q3 q4 q5 q6 q7 q8 q9 : Nat × Int} {q : Nat × Int} {r : List (Nat × Int)} {x : Int} (h : Ok X E own cc nL d) (dg : decode cc pc = .ok (.istore 10, 2)) (hn : 10 < nL) (hb : lvB (q0 :: q1 :: q2 :: q3 :: q4 :: q5 :: q6 :: q7 :: q8 :: q9 :: q :: r) 10 = true) (hp : pc + 2 = pc') (k : GG X bc bs w pc' (q0 :: q1 :: q2 :: q3 :: q4 :: q5 :: q6 :: q7 :: q8 :: q9 :: (0, x) :: r) st) : GG X bc bs w pc (q0 :: q1 :: q2 :: q3 :: q4 :: q5 :: q6 :: q7 :: q8 :: q9 :: q :: r) (vI x :: st) := g_istore_g h dg (by simp) hn hb hp k
theorem g_astore_10 {q0 q1 q2 q3 q4 q5 q6 q7 q8 q9 : Nat × Int} {q : Nat × Int} {r : List (Nat × Int)} {x : Int} (h : Ok X E own cc nL d) (dg : decode cc pc = .ok (.astore 10, 2)) (hn : 10 < nL) (hb : lvB (q0 :: q1 :: q2 :: q3 :: q4 :: q5 :: q6 :: q7 :: q8 :: q9 :: q :: r) 10 = true) (hp : pc + 2 = pc') (k : GG X bc bs w pc' (q0 :: q1 :: q2 :: q3 :: q4 :: q5 :: q6 :: q7 :: q8 :: q9 :: (1, x) :: r) st) : GG X bc bs w pc (q0 :: q1 :: q2 :: q3 :: q4 :: q5 :: q6 :: q7 :: q8 :: q9 :: q :: r) (vR x :: st) := g_astore_g h dg (by simp) hn hb hp k
theorem g_lstore_10 {q0 q1 q2 q3 q4 q5 q6 q7 q8 q9 : Nat × Int} {q q' : Nat × Int} {r : List (Nat × Int)} {x : Int} (h : Ok X E own cc nL d) (dg : decode cc pc = .ok (.lstore 10, 2)) (hn : 10 + 1 < nL) (hb : lvB (q0 :: q1 :: q2 :: q3 :: q4 :: q5 :: q6 :: q7 :: q8 :: q9 :: q :: q' :: r) 10 = true) (hp : pc + 2 = pc') (k : GG X bc bs w pc' (q0 :: q1 :: q2 :: q3 :: q4 :: q5 :: q6 :: q7 :: q8 :: q9 :: (2, x) :: (9, 0) :: r) st) : GG X bc bs w pc (q0 :: q1 :: q2 :: q3 :: q4 :: q5 :: q6 :: q7 :: q8 :: q9 :: q :: q' :: r) (vL x :: st) := g_lstore_g h dg (by simp) hn hb hp k
theorem g_dstore_10 {q0 q1 q2 q3 q4 q5 q6 q7 q8 q9 : Nat × Int} {q q' : Nat × Int} {r : List (Nat × Int)} {x : Int} (h : Ok X E own cc nL d) (dg : decode cc pc = .ok (.dstore 10, 2)) (hn : 10 + 1 < nL) (hb : lvB (q0 :: q1 :: q2 :: q3 :: q4 :: q5 :: q6 :: q7 :: q8 :: q9 :: q :: q' :: r) 10 = true) (hp : pc + 2 = pc') (k : GG X bc bs w pc' (q0 :: q1 :: q2 :: q3 :: q4 :: q5 :: q6 :: q7 :: q8 :: q9 :: (4, x) :: (9, 0) :: r) st) : GG X bc bs w pc (q0 :: q1 :: q2 :: q3 :: q4 :: q5 :: q6 :: q7 :: q8 :: q9 :: q :: q' :: r) (vD x :: st) := g_dstore_g h dg (by simp) hn hb hp k
theorem g_iinc_10 {q0 q1 q2 q3 q4 q5 q6 q7 q8 q9 : Nat × Int} {r : List (Nat × Int)} {n x : Int} (h : Ok X E own cc nL d) (dg : decode cc pc = .ok (.iinc 10 n, 3)) (hn : 10 < nL) (hb : lvB (q0 :: q1 :: q2 :: q3 :: q4 :: q5 :: q6 :: q7 :: q8 :: q9 :: (0, x) :: r) 10 = true) (hp : pc + 3 = pc') (k : GG X bc bs w pc' (q0 :: q1 :: q2 :: q3 :: q4 :: q5 :: q6 :: q7 :: q8 :: q9 :: (0, x + n) :: r) st) : GG X bc bs w pc (q0 :: q1 :: q2 :: q3 :: q4 :: q5 :: q6 :: q7 :: q8 :: q9 :: (0, x) :: r) st := g_iinc_g h dg rfl (by simp) hn hb hp k
theorem g_iadd {x y : Int} (h : Ok X E own cc nL d) (dg : decode cc pc = .ok (.iadd, 1)) (hp : pc + 1 = pc') (k : GG X bc bs w pc' lv (vI (x + y) :: st)) : GG X bc bs w pc lv (vI y :: vI x :: st) := by
  subst hp
  intro H locs ls cells slots a b c e f
  have hk := k H locs ls cells slots a b c e f
  rw [show vI (x + y) = .int (Int32.ofInt x + Int32.ofInt y) from congrArg Value.int (Int32.ofInt_add x y)] at hk
  exact lv_iadd h.1 h.2.1 dg hk
theorem g_isub {x y : Int} (h : Ok X E own cc nL d) (dg : decode cc pc = .ok (.isub, 1)) (hp : pc + 1 = pc') (k : GG X bc bs w pc' lv (vI (x - y) :: st)) : GG X bc bs w pc lv (vI y :: vI x :: st) := by
  subst hp
  intro H locs ls cells slots a b c e f
  have hk := k H locs ls cells slots a b c e f
  rw [show vI (x - y) = .int (Int32.ofInt x - Int32.ofInt y) from congrArg Value.int (Int32.ofInt_sub x y)] at hk
  exact lv_isub h.1 h.2.1 dg hk
theorem g_imul {x y : Int} (h : Ok X E own cc nL d) (dg : decode cc pc = .ok (.imul, 1)) (hp : pc + 1 = pc') (k : GG X bc bs w pc' lv (vI (x * y) :: st)) : GG X bc bs w pc lv (vI y :: vI x :: st) := by
  subst hp
  intro H locs ls cells slots a b c e f
  have hk := k H locs ls cells slots a b c e f
  rw [show vI (x * y) = .int (Int32.ofInt x * Int32.ofInt y) from congrArg Value.int (Int32.ofInt_mul x y)] at hk
  exact lv_imul h.1 h.2.1 dg hk
theorem g_ladd {x y : Int} (h : Ok X E own cc nL d) (dg : decode cc pc = .ok (.ladd, 1)) (hp : pc + 1 = pc') (k : GG X bc bs w pc' lv (vL (x + y) :: st)) : GG X bc bs w pc lv (vL y :: vL x :: st) := by
  subst hp
  intro H locs ls cells slots a b c e f
  have hk := k H locs ls cells slots a b c e f
  rw [show vL (x + y) = .long (Int64.ofInt x + Int64.ofInt y) from congrArg Value.long (Int64.ofInt_add x y)] at hk
  exact lv_ladd h.1 h.2.1 dg hk
theorem g_lsub {x y : Int} (h : Ok X E own cc nL d) (dg : decode cc pc = .ok (.lsub, 1)) (hp : pc + 1 = pc') (k : GG X bc bs w pc' lv (vL (x - y) :: st)) : GG X bc bs w pc lv (vL y :: vL x :: st) := by
  subst hp
  intro H locs ls cells slots a b c e f
  have hk := k H locs ls cells slots a b c e f
  rw [show vL (x - y) = .long (Int64.ofInt x - Int64.ofInt y) from congrArg Value.long (Int64.ofInt_sub x y)] at hk
  exact lv_lsub h.1 h.2.1 dg hk
theorem g_lmul {x y : Int} (h : Ok X E own cc nL d) (dg : decode cc pc = .ok (.lmul, 1)) (hp : pc + 1 = pc') (k : GG X bc bs w pc' lv (vL (x * y) :: st)) : GG X bc bs w pc lv (vL y :: vL x :: st) := by
  subst hp
  intro H locs ls cells slots a b c e f
  have hk := k H locs ls cells slots a b c e f
  rw [show vL (x * y) = .long (Int64.ofInt x * Int64.ofInt y) from congrArg Value.long (Int64.ofInt_mul x y)] at hk
  exact lv_lmul h.1 h.2.1 dg hk
theorem g_ineg {x : Int} (h : Ok X E own cc nL d) (dg : decode cc pc = .ok (.ineg, 1)) (hp : pc + 1 = pc') (k : GG X bc bs w pc' lv (vI (-x) :: st)) : GG X bc bs w pc lv (vI x :: st) := by
  subst hp
  intro H locs ls cells slots a b c e f
  have hk := k H locs ls cells slots a b c e f
  rw [show vI (-x) = .int (-Int32.ofInt x) from congrArg Value.int (Int32.ofInt_neg x)] at hk
  exact lv_ineg h.1 h.2.1 dg hk
theorem g_iand {x y : Int} (z : Int) (h : Ok X E own cc nL d) (dg : decode cc pc = .ok (.iand, 1)) (hv : Int32.ofInt x &&& Int32.ofInt y = Int32.ofInt z) (hp : pc + 1 = pc') (k : GG X bc bs w pc' lv (vI z :: st)) : GG X bc bs w pc lv (vI y :: vI x :: st) := by
  subst hp
  intro H locs ls cells slots a b c e f
  have hk := k H locs ls cells slots a b c e f
  rw [show vI z = .int (Int32.ofInt x &&& Int32.ofInt y) from congrArg Value.int hv.symm] at hk
  exact lv_iand h.1 h.2.1 dg hk
theorem g_ior {x y : Int} (z : Int) (h : Ok X E own cc nL d) (dg : decode cc pc = .ok (.ior, 1)) (hv : Int32.ofInt x ||| Int32.ofInt y = Int32.ofInt z) (hp : pc + 1 = pc') (k : GG X bc bs w pc' lv (vI z :: st)) : GG X bc bs w pc lv (vI y :: vI x :: st) := by
  subst hp
  intro H locs ls cells slots a b c e f
  have hk := k H locs ls cells slots a b c e f
  rw [show vI z = .int (Int32.ofInt x ||| Int32.ofInt y) from congrArg Value.int hv.symm] at hk
  exact lv_ior h.1 h.2.1 dg hk
theorem g_ishl {x y : Int} (z : Int) (h : Ok X E own cc nL d) (dg : decode cc pc = .ok (.ishl, 1)) (hv : Int32.ofInt x <<< (Int32.ofInt y &&& 31) = Int32.ofInt z) (hp : pc + 1 = pc') (k : GG X bc bs w pc' lv (vI z :: st)) : GG X bc bs w pc lv (vI y :: vI x :: st) := by
  subst hp
  intro H locs ls cells slots a b c e f
  have hk := k H locs ls cells slots a b c e f
  rw [show vI z = .int (Int32.ofInt x <<< (Int32.ofInt y &&& 31)) from congrArg Value.int hv.symm] at hk
  exact lv_ishl h.1 h.2.1 dg hk
theorem g_ishr {x y : Int} (z : Int) (h : Ok X E own cc nL d) (dg : decode cc pc = .ok (.ishr, 1)) (hv : Int32.ofInt x >>> (Int32.ofInt y &&& 31) = Int32.ofInt z) (hp : pc + 1 = pc') (k : GG X bc bs w pc' lv (vI z :: st)) : GG X bc bs w pc lv (vI y :: vI x :: st) := by
  subst hp
  intro H locs ls cells slots a b c e f
  have hk := k H locs ls cells slots a b c e f
  rw [show vI z = .int (Int32.ofInt x >>> (Int32.ofInt y &&& 31)) from congrArg Value.int hv.symm] at hk
  exact lv_ishr h.1 h.2.1 dg hk
theorem g_land {x y : Int} (z : Int) (h : Ok X E own cc nL d) (dg : decode cc pc = .ok (.land, 1)) (hv : Int64.ofInt x &&& Int64.ofInt y = Int64.ofInt z) (hp : pc + 1 = pc') (k : GG X bc bs w pc' lv (vL z :: st)) : GG X bc bs w pc lv (vL y :: vL x :: st) := by
  subst hp
  intro H locs ls cells slots a b c e f
  have hk := k H locs ls cells slots a b c e f
  rw [show vL z = .long (Int64.ofInt x &&& Int64.ofInt y) from congrArg Value.long hv.symm] at hk
  exact lv_land h.1 h.2.1 dg hk
theorem g_lor {x y : Int} (z : Int) (h : Ok X E own cc nL d) (dg : decode cc pc = .ok (.lor, 1)) (hv : Int64.ofInt x ||| Int64.ofInt y = Int64.ofInt z) (hp : pc + 1 = pc') (k : GG X bc bs w pc' lv (vL z :: st)) : GG X bc bs w pc lv (vL y :: vL x :: st) := by
  subst hp
  intro H locs ls cells slots a b c e f
  have hk := k H locs ls cells slots a b c e f
  rw [show vL z = .long (Int64.ofInt x ||| Int64.ofInt y) from congrArg Value.long hv.symm] at hk
  exact lv_lor h.1 h.2.1 dg hk
theorem g_iushr {x y : Int} (z : Int) (h : Ok X E own cc nL d) (dg : decode cc pc = .ok (.iushr, 1)) (hv : ((Int32.ofInt x).toUInt32 >>> ((Int32.ofInt y).toUInt32 &&& Int32.toUInt32 31)).toInt32 = Int32.ofInt z) (hp : pc + 1 = pc') (k : GG X bc bs w pc' lv (vI z :: st)) : GG X bc bs w pc lv (vI y :: vI x :: st) := by
  subst hp
  exact fun H locs ls cells slots a b c e f => lv_iushr h.1 h.2.1 dg hv (k H locs ls cells slots a b c e f)
theorem g_lshl {x y : Int} (z : Int) (h : Ok X E own cc nL d) (dg : decode cc pc = .ok (.lshl, 1)) (hv : Int64.ofInt x <<< ((Int32.ofInt y).toInt64 &&& 63) = Int64.ofInt z) (hp : pc + 1 = pc') (k : GG X bc bs w pc' lv (vL z :: st)) : GG X bc bs w pc lv (vI y :: vL x :: st) := by
  subst hp
  exact fun H locs ls cells slots a b c e f => lv_lshl h.1 h.2.1 dg hv (k H locs ls cells slots a b c e f)
theorem g_idiv {x y : Int} (z : Int) (h : Ok X E own cc nL d) (dg : decode cc pc = .ok (.idiv, 1)) (hv : ¬ Int32.ofInt y = 0 ∧ Int32.ofInt x / Int32.ofInt y = Int32.ofInt z) (hp : pc + 1 = pc') (k : GG X bc bs w pc' lv (vI z :: st)) : GG X bc bs w pc lv (vI y :: vI x :: st) := by
  subst hp
  intro H locs ls cells slots a b c e f
  have hk := k H locs ls cells slots a b c e f
  rw [show vI z = .int (Int32.ofInt x / Int32.ofInt y) from congrArg Value.int hv.2.symm] at hk
  exact lv_idiv h.1 h.2.1 dg hv.1 hk
theorem g_ldiv {x y : Int} (z : Int) (h : Ok X E own cc nL d) (dg : decode cc pc = .ok (.ldiv, 1)) (hv : ¬ Int64.ofInt y = 0 ∧ Int64.ofInt x / Int64.ofInt y = Int64.ofInt z) (hp : pc + 1 = pc') (k : GG X bc bs w pc' lv (vL z :: st)) : GG X bc bs w pc lv (vL y :: vL x :: st) := by
  subst hp
  intro H locs ls cells slots a b c e f
  have hk := k H locs ls cells slots a b c e f
  rw [show vL z = .long (Int64.ofInt x / Int64.ofInt y) from congrArg Value.long hv.2.symm] at hk
  exact lv_ldiv h.1 h.2.1 dg hv.1 hk
theorem g_irem {x y : Int} (z : Int) (h : Ok X E own cc nL d) (dg : decode cc pc = .ok (.irem, 1)) (hv : ¬ Int32.ofInt y = 0 ∧ Int32.ofInt x - Int32.ofInt x / Int32.ofInt y * Int32.ofInt y = Int32.ofInt z) (hp : pc + 1 = pc') (k : GG X bc bs w pc' lv (vI z :: st)) : GG X bc bs w pc lv (vI y :: vI x :: st) := by
  subst hp
  intro H locs ls cells slots a b c e f
  have hk := k H locs ls cells slots a b c e f
  rw [show vI z = .int (Int32.ofInt x - Int32.ofInt x / Int32.ofInt y * Int32.ofInt y) from congrArg Value.int hv.2.symm] at hk
  exact lv_irem h.1 h.2.1 dg hv.1 hk
theorem g_lrem {x y : Int} (z : Int) (h : Ok X E own cc nL d) (dg : decode cc pc = .ok (.lrem, 1)) (hv : ¬ Int64.ofInt y = 0 ∧ Int64.ofInt x - Int64.ofInt x / Int64.ofInt y * Int64.ofInt y = Int64.ofInt z) (hp : pc + 1 = pc') (k : GG X bc bs w pc' lv (vL z :: st)) : GG X bc bs w pc lv (vL y :: vL x :: st) := by
  subst hp
  intro H locs ls cells slots a b c e f
  have hk := k H locs ls cells slots a b c e f
  rw [show vL z = .long (Int64.ofInt x - Int64.ofInt x / Int64.ofInt y * Int64.ofInt y) from congrArg Value.long hv.2.symm] at hk
  exact lv_lrem h.1 h.2.1 dg hv.1 hk
theorem g_i2l {x : Int} (h : Ok X E own cc nL d) (dg : decode cc pc = .ok (.i2l, 1)) (hx : -2147483648 ≤ x ∧ x ≤ 2147483647) (hp : pc + 1 = pc') (k : GG X bc bs w pc' lv (vL x :: st)) : GG X bc bs w pc lv (vI x :: st) := by
  subst hp
  exact fun H locs ls cells slots a b c e f => lv_i2l h.1 h.2.1 dg (i2l_of hx) (k H locs ls cells slots a b c e f)
theorem g_l2i {x : Int} (h : Ok X E own cc nL d) (dg : decode cc pc = .ok (.l2i, 1)) (hp : pc + 1 = pc') (k : GG X bc bs w pc' lv (vI x :: st)) : GG X bc bs w pc lv (vL x :: st) := by
  subst hp
  exact fun H locs ls cells slots a b c e f => lv_l2i h.1 h.2.1 dg (l2i_of x) (k H locs ls cells slots a b c e f)
theorem g_i2f {x : Int} (h : Ok X E own cc nL d) (dg : decode cc pc = .ok (.i2f, 1)) (hp : pc + 1 = pc') (k : GG X bc bs w pc' lv (.float (FP.i2f (Int32.ofInt x)) :: st)) : GG X bc bs w pc lv (vI x :: st) := by
  subst hp
  exact fun H locs ls cells slots a b c e f => lv_i2f h.1 h.2.1 dg (k H locs ls cells slots a b c e f)
theorem g_i2d {x : Int} (h : Ok X E own cc nL d) (dg : decode cc pc = .ok (.i2d, 1)) (hp : pc + 1 = pc') (k : GG X bc bs w pc' lv (.double (FP.i2d (Int32.ofInt x)) :: st)) : GG X bc bs w pc lv (vI x :: st) := by
  subst hp
  exact fun H locs ls cells slots a b c e f => lv_i2d h.1 h.2.1 dg (k H locs ls cells slots a b c e f)
theorem g_f2d {x : UInt32} (h : Ok X E own cc nL d) (dg : decode cc pc = .ok (.f2d, 1)) (hne : vf_n64 (FP.f2d x)) (hp : pc + 1 = pc') (k : GG X bc bs w pc' lv (.double (FP.f2d x) :: st)) : GG X bc bs w pc lv (.float x :: st) := by
  subst hp
  exact fun H locs ls cells slots a b c e f => lv_f2d h.1 h.2.1 dg hne (k H locs ls cells slots a b c e f)
theorem g_fdiv {x y : UInt32} (h : Ok X E own cc nL d) (dg : decode cc pc = .ok (.fdiv, 1)) (hne : vf_n32 (FP.fdiv x y)) (hp : pc + 1 = pc') (k : GG X bc bs w pc' lv (.float (FP.fdiv x y) :: st)) : GG X bc bs w pc lv (.float y :: .float x :: st) := by
  subst hp
  exact fun H locs ls cells slots a b c e f => lv_fdiv h.1 h.2.1 dg hne (k H locs ls cells slots a b c e f)
theorem g_ddiv {x y : UInt64} (h : Ok X E own cc nL d) (dg : decode cc pc = .ok (.ddiv, 1)) (hne : vf_n64 (FP.ddiv x y)) (hp : pc + 1 = pc') (k : GG X bc bs w pc' lv (.double (FP.ddiv x y) :: st)) : GG X bc bs w pc lv (.double y :: .double x :: st) := by
  subst hp
  exact fun H locs ls cells slots a b c e f => lv_ddiv h.1 h.2.1 dg hne (k H locs ls cells slots a b c e f)
theorem g_fcmp {x y : UInt32} {op : CmpOp} (h : Ok X E own cc nL d) (dg : decode cc pc = .ok (.fcmp op, 1)) (hp : pc + 1 = pc') (k : GG X bc bs w pc' lv (.int (Op.cmpValue (FP.fcmp x y) op) :: st)) : GG X bc bs w pc lv (.float y :: .float x :: st) := by
  subst hp
  exact fun H locs ls cells slots a b c e f => lv_fcmp h.1 h.2.1 dg (k H locs ls cells slots a b c e f)
theorem g_dcmp {x y : UInt64} {op : CmpOp} (h : Ok X E own cc nL d) (dg : decode cc pc = .ok (.dcmp op, 1)) (hp : pc + 1 = pc') (k : GG X bc bs w pc' lv (.int (Op.cmpValue (FP.dcmp x y) op) :: st)) : GG X bc bs w pc lv (.double y :: .double x :: st) := by
  subst hp
  exact fun H locs ls cells slots a b c e f => lv_dcmp h.1 h.2.1 dg (k H locs ls cells slots a b c e f)
theorem g_lcmp {x y : Int} (h : Ok X E own cc nL d) (dg : decode cc pc = .ok (.lcmp, 1)) (hx : -9223372036854775808 ≤ x ∧ x ≤ 9223372036854775807) (hy : -9223372036854775808 ≤ y ∧ y ≤ 9223372036854775807) (hp : pc + 1 = pc') (k : GG X bc bs w pc' lv (vI (if y < x then 1 else if x < y then -1 else 0) :: st)) : GG X bc bs w pc lv (vL y :: vL x :: st) := by
  subst hp
  intro H locs ls cells slots a b c e f
  have hk := k H locs ls cells slots a b c e f
  rw [← lcmp_of hx hy] at hk
  exact W.lcmp h.1 h.2.1 dg hk
/-- longs compared where only their equality is asked -/
theorem g_lcmpE {x y : Int} (h : Ok X E own cc nL d) (dg : decode cc pc = .ok (.lcmp, 1)) (hp : pc + 1 = pc') (k : ∀ z : Int, (-1 ≤ z ∧ z ≤ 1) → (z = 0 ↔ Int64.ofInt x = Int64.ofInt y) → GG X bc bs w pc' lv (vI z :: st)) : GG X bc bs w pc lv (vL y :: vL x :: st) := by
  subst hp
  intro H locs ls cells slots a b c e f
  obtain ⟨z, h1, h2, h3⟩ := lcmp_eq (Int64.ofInt x) (Int64.ofInt y)
  have hk := k z h1 h2 H locs ls cells slots a b c e f
  rw [show vI z = .int (lg_cmp (Int64.ofInt x) (Int64.ofInt y)) from congrArg Value.int h3.symm] at hk
  exact W.lcmp h.1 h.2.1 dg hk
theorem g_dup {v : Value} (h : Ok X E own cc nL d) (dg : decode cc pc = .ok (.dup, 1)) (hc : v.category = 1) (hp : pc + 1 = pc') (k : GG X bc bs w pc' lv (v :: v :: st)) : GG X bc bs w pc lv (v :: st) := by
  subst hp
  exact fun H locs ls cells slots a b c e f => lv_dup h.1 h.2.1 dg hc (k H locs ls cells slots a b c e f)
theorem g_pop {v : Value} (h : Ok X E own cc nL d) (dg : decode cc pc = .ok (.pop, 1)) (hc : v.category = 1) (hp : pc + 1 = pc') (k : GG X bc bs w pc' lv (st)) : GG X bc bs w pc lv (v :: st) := by
  subst hp
  exact fun H locs ls cells slots a b c e f => lv_pop h.1 h.2.1 dg hc (k H locs ls cells slots a b c e f)
theorem g_dup_x1 {v u : Value} (h : Ok X E own cc nL d) (dg : decode cc pc = .ok (.dup_x1, 1)) (hc : v.category = 1) (hd : u.category = 1) (hp : pc + 1 = pc') (k : GG X bc bs w pc' lv (v :: u :: v :: st)) : GG X bc bs w pc lv (v :: u :: st) := by
  subst hp
  exact fun H locs ls cells slots a b c e f => lv_dup_x1 h.1 h.2.1 dg hc hd (k H locs ls cells slots a b c e f)
theorem g_dup2 {v u : Value} (h : Ok X E own cc nL d) (dg : decode cc pc = .ok (.dup2, 1)) (hc : v.category = 1) (hd : u.category = 1) (hp : pc + 1 = pc') (k : GG X bc bs w pc' lv (v :: u :: v :: u :: st)) : GG X bc bs w pc lv (v :: u :: st) := by
  subst hp
  exact fun H locs ls cells slots a b c e f => lv_dup2_11 h.1 h.2.1 dg hc hd (k H locs ls cells slots a b c e f)
theorem g_icmp_eq {x y off : Int} {tgt : Nat} (h : Ok X E own cc nL d) (dg : decode cc pc = .ok (.if_icmp .eq off, 3)) (ht : (pc : Int) + off = (tgt : Int)) (hp : pc + 3 = pc') (hx : -2147483648 ≤ x ∧ x ≤ 2147483647) (hy : -2147483648 ≤ y ∧ y ≤ 2147483647) (kt : x = y → GG X bc bs w tgt lv st) (kf : ¬ (x = y) → GG X bc bs w pc' lv st) : GG X bc bs w pc lv (vI y :: vI x :: st) := by
  subst hp
  intro H locs ls cells slots a b c e f
  refine lv_icmp_eq h.1 h.2.1 dg ht (fun q => kt ?_ H locs ls cells slots a b c e f) (fun q => kf ?_ H locs ls cells slots a b c e f) <;> (first | exact (cmp_eq hx hy).mp q | exact fun z => q ((cmp_eq hx hy).mpr z))
theorem g_if_eq {x off : Int} {tgt : Nat} (h : Ok X E own cc nL d) (dg : decode cc pc = .ok (.ifCond .eq off, 3)) (ht : (pc : Int) + off = (tgt : Int)) (hp : pc + 3 = pc') (hx : -2147483648 ≤ x ∧ x ≤ 2147483647) (kt : x = 0 → GG X bc bs w tgt lv st) (kf : ¬ (x = 0) → GG X bc bs w pc' lv st) : GG X bc bs w pc lv (vI x :: st) := by
  subst hp
  intro H locs ls cells slots a b c e f
  refine lv_if_eq h.1 h.2.1 dg ht (fun q => kt ?_ H locs ls cells slots a b c e f) (fun q => kf ?_ H locs ls cells slots a b c e f) <;> (first | exact (cmp_eq (y := 0) hx (by decide)).mp q | exact fun z => q ((cmp_eq (y := 0) hx (by decide)).mpr z))
theorem g_icmp_ne {x y off : Int} {tgt : Nat} (h : Ok X E own cc nL d) (dg : decode cc pc = .ok (.if_icmp .ne off, 3)) (ht : (pc : Int) + off = (tgt : Int)) (hp : pc + 3 = pc') (hx : -2147483648 ≤ x ∧ x ≤ 2147483647) (hy : -2147483648 ≤ y ∧ y ≤ 2147483647) (kt : ¬ x = y → GG X bc bs w tgt lv st) (kf : x = y → GG X bc bs w pc' lv st) : GG X bc bs w pc lv (vI y :: vI x :: st) := by
  subst hp
  intro H locs ls cells slots a b c e f
  refine lv_icmp_ne h.1 h.2.1 dg ht (fun q => kt ?_ H locs ls cells slots a b c e f) (fun q => kf ?_ H locs ls cells slots a b c e f) <;> (first | exact (cmp_ne hx hy).mp q | exact (cmp_eq hx hy).mp q)
theorem g_if_ne {x off : Int} {tgt : Nat} (h : Ok X E own cc nL d) (dg : decode cc pc = .ok (.ifCond .ne off, 3)) (ht : (pc : Int) + off = (tgt : Int)) (hp : pc + 3 = pc') (hx : -2147483648 ≤ x ∧ x ≤ 2147483647) (kt : ¬ x = 0 → GG X bc bs w tgt lv st) (kf : x = 0 → GG X bc bs w pc' lv st) : GG X bc bs w pc lv (vI x :: st) := by
  subst hp
  intro H locs ls cells slots a b c e f
  refine lv_if_ne h.1 h.2.1 dg ht (fun q => kt ?_ H locs ls cells slots a b c e f) (fun q => kf ?_ H locs ls cells slots a b c e f) <;> (first | exact (cmp_ne (y := 0) hx (by decide)).mp q | exact (cmp_eq (y := 0) hx (by decide)).mp q)
theorem g_icmp_lt {x y off : Int} {tgt : Nat} (h : Ok X E own cc nL d) (dg : decode cc pc = .ok (.if_icmp .lt off, 3)) (ht : (pc : Int) + off = (tgt : Int)) (hp : pc + 3 = pc') (hx : -2147483648 ≤ x ∧ x ≤ 2147483647) (hy : -2147483648 ≤ y ∧ y ≤ 2147483647) (kt : x < y → GG X bc bs w tgt lv st) (kf : ¬ (x < y) → GG X bc bs w pc' lv st) : GG X bc bs w pc lv (vI y :: vI x :: st) := by
  subst hp
  intro H locs ls cells slots a b c e f
  refine lv_icmp_lt h.1 h.2.1 dg ht (fun q => kt ?_ H locs ls cells slots a b c e f) (fun q => kf ?_ H locs ls cells slots a b c e f) <;> (first | exact (cmp_lt hx hy).mp q | exact fun z => q ((cmp_lt hx hy).mpr z))
theorem g_if_lt {x off : Int} {tgt : Nat} (h : Ok X E own cc nL d) (dg : decode cc pc = .ok (.ifCond .lt off, 3)) (ht : (pc : Int) + off = (tgt : Int)) (hp : pc + 3 = pc') (hx : -2147483648 ≤ x ∧ x ≤ 2147483647) (kt : x < 0 → GG X bc bs w tgt lv st) (kf : ¬ (x < 0) → GG X bc bs w pc' lv st) : GG X bc bs w pc lv (vI x :: st) := by
  subst hp
  intro H locs ls cells slots a b c e f
  refine lv_if_lt h.1 h.2.1 dg ht (fun q => kt ?_ H locs ls cells slots a b c e f) (fun q => kf ?_ H locs ls cells slots a b c e f) <;> (first | exact (cmp_lt (y := 0) hx (by decide)).mp q | exact fun z => q ((cmp_lt (y := 0) hx (by decide)).mpr z))
theorem g_icmp_ge {x y off : Int} {tgt : Nat} (h : Ok X E own cc nL d) (dg : decode cc pc = .ok (.if_icmp .ge off, 3)) (ht : (pc : Int) + off = (tgt : Int)) (hp : pc + 3 = pc') (hx : -2147483648 ≤ x ∧ x ≤ 2147483647) (hy : -2147483648 ≤ y ∧ y ≤ 2147483647) (kt : y ≤ x → GG X bc bs w tgt lv st) (kf : ¬ (y ≤ x) → GG X bc bs w pc' lv st) : GG X bc bs w pc lv (vI y :: vI x :: st) := by
  subst hp
  intro H locs ls cells slots a b c e f
  refine lv_icmp_ge h.1 h.2.1 dg ht (fun q => kt ?_ H locs ls cells slots a b c e f) (fun q => kf ?_ H locs ls cells slots a b c e f) <;> (first | exact (cmp_ge hx hy).mp q | exact fun z => q ((cmp_ge hx hy).mpr z))
theorem g_if_ge {x off : Int} {tgt : Nat} (h : Ok X E own cc nL d) (dg : decode cc pc = .ok (.ifCond .ge off, 3)) (ht : (pc : Int) + off = (tgt : Int)) (hp : pc + 3 = pc') (hx : -2147483648 ≤ x ∧ x ≤ 2147483647) (kt : 0 ≤ x → GG X bc bs w tgt lv st) (kf : ¬ (0 ≤ x) → GG X bc bs w pc' lv st) : GG X bc bs w pc lv (vI x :: st) := by
  subst hp
  intro H locs ls cells slots a b c e f
  refine lv_if_ge h.1 h.2.1 dg ht (fun q => kt ?_ H locs ls cells slots a b c e f) (fun q => kf ?_ H locs ls cells slots a b c e f) <;> (first | exact (cmp_ge (y := 0) hx (by decide)).mp q | exact fun z => q ((cmp_ge (y := 0) hx (by decide)).mpr z))
theorem g_icmp_gt {x y off : Int} {tgt : Nat} (h : Ok X E own cc nL d) (dg : decode cc pc = .ok (.if_icmp .gt off, 3)) (ht : (pc : Int) + off = (tgt : Int)) (hp : pc + 3 = pc') (hx : -2147483648 ≤ x ∧ x ≤ 2147483647) (hy : -2147483648 ≤ y ∧ y ≤ 2147483647) (kt : y < x → GG X bc bs w tgt lv st) (kf : ¬ (y < x) → GG X bc bs w pc' lv st) : GG X bc bs w pc lv (vI y :: vI x :: st) := by
  subst hp
  intro H locs ls cells slots a b c e f
  refine lv_icmp_gt h.1 h.2.1 dg ht (fun q => kt ?_ H locs ls cells slots a b c e f) (fun q => kf ?_ H locs ls cells slots a b c e f) <;> (first | exact (cmp_gt hx hy).mp q | exact fun z => q ((cmp_gt hx hy).mpr z))
theorem g_if_gt {x off : Int} {tgt : Nat} (h : Ok X E own cc nL d) (dg : decode cc pc = .ok (.ifCond .gt off, 3)) (ht : (pc : Int) + off = (tgt : Int)) (hp : pc + 3 = pc') (hx : -2147483648 ≤ x ∧ x ≤ 2147483647) (kt : 0 < x → GG X bc bs w tgt lv st) (kf : ¬ (0 < x) → GG X bc bs w pc' lv st) : GG X bc bs w pc lv (vI x :: st) := by
  subst hp
  intro H locs ls cells slots a b c e f
  refine lv_if_gt h.1 h.2.1 dg ht (fun q => kt ?_ H locs ls cells slots a b c e f) (fun q => kf ?_ H locs ls cells slots a b c e f) <;> (first | exact (cmp_gt (y := 0) hx (by decide)).mp q | exact fun z => q ((cmp_gt (y := 0) hx (by decide)).mpr z))
theorem g_icmp_le {x y off : Int} {tgt : Nat} (h : Ok X E own cc nL d) (dg : decode cc pc = .ok (.if_icmp .le off, 3)) (ht : (pc : Int) + off = (tgt : Int)) (hp : pc + 3 = pc') (hx : -2147483648 ≤ x ∧ x ≤ 2147483647) (hy : -2147483648 ≤ y ∧ y ≤ 2147483647) (kt : x ≤ y → GG X bc bs w tgt lv st) (kf : ¬ (x ≤ y) → GG X bc bs w pc' lv st) : GG X bc bs w pc lv (vI y :: vI x :: st) := by
  subst hp
  intro H locs ls cells slots a b c e f
  refine lv_icmp_le h.1 h.2.1 dg ht (fun q => kt ?_ H locs ls cells slots a b c e f) (fun q => kf ?_ H locs ls cells slots a b c e f) <;> (first | exact (cmp_le hx hy).mp q | exact fun z => q ((cmp_le hx hy).mpr z))
theorem g_if_le {x off : Int} {tgt : Nat} (h : Ok X E own cc nL d) (dg : decode cc pc = .ok (.ifCond .le off, 3)) (ht : (pc : Int) + off = (tgt : Int)) (hp : pc + 3 = pc') (hx : -2147483648 ≤ x ∧ x ≤ 2147483647) (kt : x ≤ 0 → GG X bc bs w tgt lv st) (kf : ¬ (x ≤ 0) → GG X bc bs w pc' lv st) : GG X bc bs w pc lv (vI x :: st) := by
  subst hp
  intro H locs ls cells slots a b c e f
  refine lv_if_le h.1 h.2.1 dg ht (fun q => kt ?_ H locs ls cells slots a b c e f) (fun q => kf ?_ H locs ls cells slots a b c e f) <;> (first | exact (cmp_le (y := 0) hx (by decide)).mp q | exact fun z => q ((cmp_le (y := 0) hx (by decide)).mpr z))
theorem g_goto {off : Int} {tgt : Nat} (h : Ok X E own cc nL d) (dg : decode cc pc = .ok (.goto off, 3)) (ht : (pc : Int) + off = (tgt : Int)) (k : GG X bc bs w tgt lv st) : GG X bc bs w pc lv st :=
  fun H locs ls cells slots a b c e f => lv_goto h.1 h.2.1 dg ht (k H locs ls cells slots a b c e f)
theorem g_ifnonnull {x off : Int} {tgt : Nat} (h : Ok X E own cc nL d) (dg : decode cc pc = .ok (.ifnonnull off, 3)) (ht : (pc : Int) + off = (tgt : Int)) (hp : pc + 3 = pc') (kt : 0 ≤ x → GG X bc bs w tgt lv st) (kf : x < 0 → GG X bc bs w pc' lv st) : GG X bc bs w pc lv (vR x :: st) := by
  subst hp
  intro H locs ls cells slots a b c e f
  by_cases hx : x < 0
  · rw [vR_neg hx]
    exact lv_ifnonnullN h.1 h.2.1 dg (kf hx H locs ls cells slots a b c e f)
  · rw [vR_pos (by omega)]
    exact lv_ifnonnull h.1 h.2.1 dg ht (kt (by omega) H locs ls cells slots a b c e f)
theorem g_ifnull {x off : Int} {tgt : Nat} (h : Ok X E own cc nL d) (dg : decode cc pc = .ok (.ifnull off, 3)) (ht : (pc : Int) + off = (tgt : Int)) (hp : pc + 3 = pc') (kt : x < 0 → GG X bc bs w tgt lv st) (kf : 0 ≤ x → GG X bc bs w pc' lv st) : GG X bc bs w pc lv (vR x :: st) := by
  subst hp
  intro H locs ls cells slots a b c e f
  by_cases hx : x < 0
  · rw [vR_neg hx]
    exact lv_ifnullN h.1 h.2.1 dg ht (kt hx H locs ls cells slots a b c e f)
  · rw [vR_pos (by omega)]
    exact lv_ifnull h.1 h.2.1 dg (kf (by omega) H locs ls cells slots a b c e f)
theorem g_acmp_eq {x y off : Int} {tgt : Nat} (h : Ok X E own cc nL d) (dg : decode cc pc = .ok (.if_acmp .eq off, 3)) (ht : (pc : Int) + off = (tgt : Int)) (hp : pc + 3 = pc') (hx : 0 ≤ x) (hy : 0 ≤ y) (kt : x = y → GG X bc bs w tgt lv st) (kf : ¬ x = y → GG X bc bs w pc' lv st) : GG X bc bs w pc lv (vR y :: vR x :: st) := by
  subst hp
  intro H locs ls cells slots a b c e f
  exact lv_acmp_eq h.1 h.2.1 dg ht (fun q => kt ((ro_inj hx hy).mp q) H locs ls cells slots a b c e f) (fun q => kf (fun z => q ((ro_inj hx hy).mpr z)) H locs ls cells slots a b c e f)
theorem g_acmp_ne {x y off : Int} {tgt : Nat} (h : Ok X E own cc nL d) (dg : decode cc pc = .ok (.if_acmp .ne off, 3)) (ht : (pc : Int) + off = (tgt : Int)) (hp : pc + 3 = pc') (hx : 0 ≤ x) (hy : 0 ≤ y) (kt : ¬ x = y → GG X bc bs w tgt lv st) (kf : x = y → GG X bc bs w pc' lv st) : GG X bc bs w pc lv (vR y :: vR x :: st) := by
  subst hp
  intro H locs ls cells slots a b c e f
  exact lv_acmp_ne h.1 h.2.1 dg ht (fun q => kt (fun z => q ((ro_inj hx hy).mpr z)) H locs ls cells slots a b c e f) (fun q => kf ((ro_inj hx hy).mp q) H locs ls cells slots a b c e f)
end RW0
