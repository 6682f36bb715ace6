/-! THE PLAIN LAW, 2: permutations by masks: counting, the first one, their order -/
set_option maxRecDepth 100000
/-- the same lists, columns used as a mask -/
def pmM (n : Nat) : Nat → Nat → List (List Nat)
  | 0, _ => [[]]
  | r + 1, s => (List.range n).flatMap fun j => if s >>> j % 2 = 0 then (pmM n r (s ||| 1 <<< j)).map (j :: ·) else []
theorem b_bit : ∀ s < 128, ∀ c < 7, ∀ j < 7, (s ||| 1 <<< c) >>> j % 2 = if j = c then 1 else s >>> j % 2 := by decide +kernel
theorem fm_cg {α β : Type} {f g : α → List β} : ∀ {l : List α}, (∀ a ∈ l, f a = g a) → l.flatMap f = l.flatMap g := by
  intro l
  induction l with
  | nil => intro _; rfl
  | cons a l ih =>
    intro h
    rw [List.flatMap_cons, List.flatMap_cons, h a List.mem_cons_self, ih (fun b hb => h b (List.mem_cons_of_mem _ hb))]
theorem pmM_eq {n : Nat} (hn : n ≤ 7) : ∀ {r : Nat} {u : List Nat} {s : Nat}, s < 128 → (∀ j, j < n → (j ∈ u ↔ s >>> j % 2 = 1)) → pmR n r u = pmM n r s := by
  intro r
  induction r with
  | zero => intro u s _ _; rfl
  | succ r ih =>
    intro u s hs h
    unfold pmR pmM
    refine fm_cg (fun j hj => ?_)
    have hj2 := List.mem_range.mp hj
    have h1 := h j hj2
    by_cases hb : s >>> j % 2 = 0
    · have hu : ¬ j ∈ u := fun z => by have := h1.mp z; omega
      rw [if_pos hb, if_neg (by simpa using hu), ih (b_or_lt s hs j (by omega)) (fun k hk => ?_)]
      rw [b_bit s hs j (by omega) k (by omega), List.mem_cons]
      by_cases hkj : k = j
      · simp [hkj]
      · simp only [hkj, if_false, false_or]
        exact h k hk
    · have hu : j ∈ u := h1.mpr (by omega)
      rw [if_neg hb, if_pos (by simpa using hu)]
theorem pmN_M {n : Nat} (hn : n ≤ 7) : pmN n = pmM n n 0 := pmM_eq hn (by omega) (fun j _ => by simp)
theorem pmM_mem {n : Nat} : ∀ {r s : Nat} {τ : List Nat}, τ ∈ pmM n r s → τ.length = r ∧ ∀ x ∈ τ, x < n := by
  intro r
  induction r with
  | zero =>
    intro s τ h
    simp only [pmM, List.mem_singleton] at h
    subst h
    simp
  | succ r ih =>
    intro s τ h
    simp only [pmM, List.mem_flatMap, List.mem_range] at h
    obtain ⟨j, hj, h⟩ := h
    split at h
    · obtain ⟨ρ, h1, rfl⟩ := List.mem_map.mp h
      obtain ⟨h2, h3⟩ := ih h1
      refine ⟨by simp [h2], fun x hx => ?_⟩
      rcases List.mem_cons.mp hx with e | hx
      · rw [e]; exact hj
      · exact h3 x hx
    · simp at h
/-- how many ways to go on: rows left, columns used, what may be spent -/
def cW (n : Nat) (C : Int → Int → Int) : Nat → Nat → Int → Int
  | 0, _, _ => 1
  | r + 1, s, a => sm' n (fun j => if s >>> j.toNat % 2 = 0 ∧ C ((n : Int) - ((r : Int) + 1)) j ≤ a then cW n C r (s ||| 1 <<< j.toNat) (a - C ((n : Int) - ((r : Int) + 1)) j) else 0)
theorem cP_fm {f : Nat → List (List Nat)} {p : List Nat → Bool} : ∀ n : Nat, ((((List.range n).flatMap f).countP p : Nat) : Int) = sm' n (fun j => (((f j.toNat).countP p : Nat) : Int))
  | 0 => rfl
  | n + 1 => by
    rw [List.range_succ, List.flatMap_append, List.countP_append]
    have h := cP_fm (f := f) (p := p) n
    show ((_ + _ : Nat) : Int) = sm' n _ + (((f ((n : Int)).toNat).countP p : Nat) : Int)
    rw [Int.natCast_add, h]
    simp
theorem nnM {n : Nat} {C : Int → Int → Int} (hC : ∀ i j : Int, 0 ≤ i → i < n → 0 ≤ j → j < n → 0 ≤ C i j) : ∀ {τ : List Nat} {i : Int}, 0 ≤ i → i + τ.length ≤ n → (∀ x ∈ τ, x < n) → 0 ≤ ps C i τ := by
  intro τ
  induction τ with
  | nil => intro i _ _ _; simp [ps]
  | cons j l ih =>
    intro i h0 h1 h2
    simp only [List.length_cons] at h1
    have h3 := ih (i := i + 1) (by omega) (by omega) (fun x hx => h2 x (List.mem_cons_of_mem _ hx))
    have h4 := hC i j h0 (by omega) (by omega) (by have := h2 j List.mem_cons_self; omega)
    simp only [ps]
    omega
theorem cW_cnt {n : Nat} {C : Int → Int → Int} (hC : ∀ i j : Int, 0 ≤ i → i < n → 0 ≤ j → j < n → 0 ≤ C i j) : ∀ (r s : Nat) (a : Int), r ≤ n → 0 ≤ a → cW n C r s a = (((pmM n r s).countP (fun τ => decide (ps C ((n : Int) - r) τ ≤ a)) : Nat) : Int) := by
  intro r
  induction r with
  | zero =>
    intro s a _ ha
    simp [cW, pmM, ps, ha]
  | succ r ih =>
    intro s a hr ha
    unfold cW pmM
    rw [cP_fm]
    refine sm_cg (fun j j0 j1 => ?_)
    have ej : ((j.toNat : Nat) : Int) = j := Int.toNat_of_nonneg j0
    have er : ((n : Int) - ((r + 1 : Nat) : Int)) + 1 = (n : Int) - r := by omega
    have er2 : (n : Int) - ((r + 1 : Nat) : Int) = (n : Int) - ((r : Int) + 1) := by omega
    have hps : ∀ τ : List Nat, ps C ((n : Int) - ((r + 1 : Nat) : Int)) (j.toNat :: τ) = C ((n : Int) - ((r : Int) + 1)) j + ps C ((n : Int) - r) τ := fun τ => by
      show C _ _ + ps C (_ + 1) τ = _
      rw [er, er2, ej]
    by_cases hb : s >>> j.toNat % 2 = 0
    · rw [if_pos hb, List.countP_map]
      by_cases hc : C ((n : Int) - ((r : Int) + 1)) j ≤ a
      · rw [if_pos ⟨hb, hc⟩, ih _ _ (by omega) (by omega)]
        congr 1
        refine List.countP_congr (fun τ _ => ?_)
        show decide (ps C ((n : Int) - r) τ ≤ a - C ((n : Int) - ((r : Int) + 1)) j) = true ↔ decide (ps C ((n : Int) - ((r + 1 : Nat) : Int)) (j.toNat :: τ) ≤ a) = true
        rw [decide_eq_true_iff, decide_eq_true_iff, hps τ]
        omega
      · rw [if_neg (fun z => hc z.2), List.countP_eq_zero.mpr (fun τ hτ => ?_)]
        · rfl
        · obtain ⟨t1, t2⟩ := pmM_mem hτ
          have h1 := nnM hC (τ := τ) (i := (n : Int) - r) (by omega) (by omega) t2
          show ¬ decide (ps C ((n : Int) - ((r + 1 : Nat) : Int)) (j.toNat :: τ) ≤ a) = true
          rw [decide_eq_true_iff, hps τ]
          omega
    · rw [if_neg hb, if_neg (fun z => hb z.1)]
      rfl
theorem cW_nn {n : Nat} {C : Int → Int → Int} (hC : ∀ i j : Int, 0 ≤ i → i < n → 0 ≤ j → j < n → 0 ≤ C i j) {r s : Nat} {a : Int} (hr : r ≤ n) (ha : 0 ≤ a) : 0 ≤ cW n C r s a := by
  rw [cW_cnt hC r s a hr ha]; omega
theorem pmM_len {n : Nat} : ∀ r s : Nat, (pmM n r s).length ≤ n ^ r
  | 0, s => by simp [pmM]
  | r + 1, s => by
    have h : ∀ (l : List Nat), (l.flatMap fun j => if s >>> j % 2 = 0 then (pmM n r (s ||| 1 <<< j)).map (j :: ·) else []).length ≤ l.length * n ^ r := by
      intro l
      induction l with
      | nil => simp
      | cons j l ih =>
        rw [List.flatMap_cons, List.length_append, List.length_cons, Nat.add_mul]
        have h1 : (if s >>> j % 2 = 0 then (pmM n r (s ||| 1 <<< j)).map (j :: ·) else []).length ≤ n ^ r := by
          split
          · rw [List.length_map]; exact pmM_len r _
          · simp
        omega
    have h1 := h (List.range n)
    rw [List.length_range] at h1
    unfold pmM
    rw [Nat.pow_succ, Nat.mul_comm]
    exact h1
theorem cW_le {n : Nat} {C : Int → Int → Int} (hn : n ≤ 7) (hC : ∀ i j : Int, 0 ≤ i → i < n → 0 ≤ j → j < n → 0 ≤ C i j) {r s : Nat} {a : Int} (hr : r ≤ n) (ha : 0 ≤ a) : cW n C r s a ≤ 823543 := by
  rw [cW_cnt hC r s a hr ha]
  have h1 := List.countP_le_length (p := fun τ => decide (ps C ((n : Int) - r) τ ≤ a)) (l := pmM n r s)
  have h2 := pmM_len (n := n) r s
  have h3 : n ^ r ≤ 7 ^ 7 := Nat.le_trans (Nat.pow_le_pow_left hn r) (Nat.pow_le_pow_right (by decide) (by omega))
  have h4 : (7 : Nat) ^ 7 = 823543 := by decide
  omega
/-! the first one without cost -/
abbrev fZ (n : Nat) (R : Int → Int → Int) (r s : Nat) : Option (List Nat) := (pmM n r s).find? (fun τ => decide (ps R ((n : Int) - r) τ ≤ 0))
theorem fZ_none {n : Nat} {R : Int → Int → Int} (hC : ∀ i j : Int, 0 ≤ i → i < n → 0 ≤ j → j < n → 0 ≤ R i j) {r s : Nat} (hr : r ≤ n) (h : cW n R r s 0 = 0) : fZ n R r s = none := by
  rw [cW_cnt hC r s 0 hr (Int.le_refl _)] at h
  refine List.find?_eq_none.mpr (fun τ hτ hp => ?_)
  have h1 : (pmM n r s).countP (fun τ => decide (ps R ((n : Int) - r) τ ≤ 0)) = 0 := by omega
  exact (List.countP_eq_zero.mp h1 τ hτ) hp
theorem fs_at {β : Type} {g : Nat → Option β} : ∀ {n j : Nat}, j < n → (∀ x, x < j → g x = none) → (g j).isSome → (List.range n).findSome? g = g j
  | 0, j, h, _, _ => absurd h (Nat.not_lt_zero j)
  | n + 1, j, h, h0, h1 => by
    rw [List.range_succ, List.findSome?_append]
    by_cases hj : j < n
    · rw [fs_at hj h0 h1]
      cases hg : g j with
      | none => rw [hg] at h1; simp at h1
      | some y => rfl
    · have e : j = n := by omega
      subst e
      rw [List.findSome?_eq_none_iff.mpr (fun x hx => h0 x (List.mem_range.mp hx))]
      cases hg : g j with
      | none => rw [hg] at h1; simp at h1
      | some y => simp [hg]
theorem fZ_some {n : Nat} {R : Int → Int → Int} (hC : ∀ i j : Int, 0 ≤ i → i < n → 0 ≤ j → j < n → 0 ≤ R i j) {r s : Nat} (hr : r ≤ n) (h : cW n R r s 0 ≠ 0) : (fZ n R r s).isSome := by
  cases hf : fZ n R r s with
  | some y => rfl
  | none =>
    exfalso
    apply h
    rw [cW_cnt hC r s 0 hr (Int.le_refl _), List.countP_eq_zero.mpr (fun τ hτ => by simpa using List.find?_eq_none.mp hf τ hτ)]
    rfl
/-- one step of the search for it: columns before j fail, j goes -/
theorem fZ_step {n : Nat} {R : Int → Int → Int} (hC : ∀ i j : Int, 0 ≤ i → i < n → 0 ≤ j → j < n → 0 ≤ R i j) {r s j : Nat} (hr : r + 1 ≤ n) (hj : j < n)
    (h0 : ∀ x : Nat, x < j → s >>> x % 2 = 1 ∨ R ((n : Int) - ((r : Int) + 1)) x ≠ 0 ∨ cW n R r (s ||| 1 <<< x) 0 = 0) (h1 : s >>> j % 2 = 0) (h2 : R ((n : Int) - ((r : Int) + 1)) j = 0) (h3 : cW n R r (s ||| 1 <<< j) 0 ≠ 0) : fZ n R (r + 1) s = (fZ n R r (s ||| 1 <<< j)).map (j :: ·) := by
  have er : ((n : Int) - ((r + 1 : Nat) : Int)) + 1 = (n : Int) - r := by omega
  have er2 : (n : Int) - ((r + 1 : Nat) : Int) = (n : Int) - ((r : Int) + 1) := by omega
  have hps : ∀ (x : Nat) (τ : List Nat), ps R ((n : Int) - ((r + 1 : Nat) : Int)) (x :: τ) = R ((n : Int) - ((r : Int) + 1)) x + ps R ((n : Int) - r) τ := fun x τ => by
    show R _ _ + ps R (_ + 1) τ = _
    rw [er, er2]
  have hone : ∀ x : Nat, x < n → s >>> x % 2 = 0 → R ((n : Int) - ((r : Int) + 1)) x = 0 → ((pmM n r (s ||| 1 <<< x)).map (x :: ·)).find? (fun τ => decide (ps R ((n : Int) - ((r + 1 : Nat) : Int)) τ ≤ 0)) = (fZ n R r (s ||| 1 <<< x)).map (x :: ·) := by
    intro x hx hb hz
    rw [List.find?_map]
    congr 1
    show List.find? _ _ = List.find? _ _
    congr 1
    funext τ
    show decide (ps R ((n : Int) - ((r + 1 : Nat) : Int)) (x :: τ) ≤ 0) = decide (ps R ((n : Int) - r) τ ≤ 0)
    rw [hps x τ, hz, Int.zero_add]
  have ha : ∀ x, x < j → (if s >>> x % 2 = 0 then (pmM n r (s ||| 1 <<< x)).map (x :: ·) else []).find? (fun τ => decide (ps R ((n : Int) - ((r + 1 : Nat) : Int)) τ ≤ 0)) = none := by
    intro x hx
    by_cases hb : s >>> x % 2 = 0
    · rw [if_pos hb]
      by_cases hz : R ((n : Int) - ((r : Int) + 1)) x = 0
      · rw [hone x (by omega) hb hz]
        rcases h0 x hx with z | z | z
        · omega
        · exact absurd hz z
        · rw [fZ_none hC (by omega) z]; rfl
      · refine List.find?_eq_none.mpr (fun τ hτ => ?_)
        obtain ⟨ρ, hρ, rfl⟩ := List.mem_map.mp hτ
        obtain ⟨t1, t2⟩ := pmM_mem hρ
        have h4 := nnM hC (τ := ρ) (i := (n : Int) - r) (by omega) (by omega) t2
        have h5 := hC ((n : Int) - ((r : Int) + 1)) x (by omega) (by omega) (by omega) (by omega)
        show ¬ decide (ps R ((n : Int) - ((r + 1 : Nat) : Int)) (x :: ρ) ≤ 0) = true
        rw [decide_eq_true_iff, hps x ρ]
        omega
    · rw [if_neg hb]; rfl
  have hb : ((if s >>> j % 2 = 0 then (pmM n r (s ||| 1 <<< j)).map (j :: ·) else []).find? (fun τ => decide (ps R ((n : Int) - ((r + 1 : Nat) : Int)) τ ≤ 0))).isSome := by
    rw [if_pos h1, hone j hj h1 h2]
    have := fZ_some hC (s := s ||| 1 <<< j) (by omega) h3
    simpa using this
  unfold fZ
  rw [pmM, List.find?_flatMap, fs_at (j := j) hj ha hb, if_pos h1]
  exact hone j hj h1 h2
/-- there is a column that goes -/
theorem cW_ex {n : Nat} {R : Int → Int → Int} (hC : ∀ i j : Int, 0 ≤ i → i < n → 0 ≤ j → j < n → 0 ≤ R i j) {r s : Nat} (hr : r + 1 ≤ n) (h : cW n R (r + 1) s 0 ≠ 0) : ∃ j : Nat, j < n ∧ s >>> j % 2 = 0 ∧ R ((n : Int) - ((r : Int) + 1)) j = 0 ∧ cW n R r (s ||| 1 <<< j) 0 ≠ 0 := by
  apply Classical.byContradiction
  intro hn
  apply h
  unfold cW
  have : ∀ (k : Nat) (f : Int → Int), (∀ i : Int, 0 ≤ i → i < k → f i = 0) → sm' k f = 0 := by
    intro k f
    induction k with
    | zero => intro _; rfl
    | succ k ih =>
      intro hf
      show sm' k f + f k = 0
      rw [ih (fun i i0 i1 => hf i i0 (by omega)), hf k (by omega) (by omega)]
      rfl
  refine this n _ (fun j j0 j1 => ?_)
  split
  · rename_i hc
    have ej : ((j.toNat : Nat) : Int) = j := Int.toNat_of_nonneg j0
    have h5 := hC ((n : Int) - ((r : Int) + 1)) j (by omega) (by omega) (by omega) (by omega)
    have hz : R ((n : Int) - ((r : Int) + 1)) j = 0 := by omega
    rw [hz, Int.sub_zero]
    apply Classical.byContradiction
    intro h6
    exact hn ⟨j.toNat, by omega, hc.1, by rw [ej]; exact hz, h6⟩
  · rfl
/-! their order, by code -/
def cd : Int → List Nat → Int
  | a, [] => a
  | a, j :: l => cd (10 * a + j + 1) l
theorem cd_app : ∀ {l : List Nat} {a : Int} {j : Nat}, cd a (l ++ [j]) = 10 * cd a l + j + 1 := by
  intro l
  induction l with
  | nil => intro a j; rfl
  | cons k l ih => intro a j; exact ih
theorem cd_b : ∀ {l : List Nat} {a : Int}, (∀ x ∈ l, x < 9) → (10 : Int) ^ l.length * a ≤ cd a l ∧ cd a l < (10 : Int) ^ l.length * (a + 1) := by
  intro l
  induction l with
  | nil => intro a _; simp [cd]; omega
  | cons j l ih =>
    intro a h
    have h1 := ih (a := 10 * a + j + 1) (fun x hx => h x (List.mem_cons_of_mem _ hx))
    have hj := h j List.mem_cons_self
    have hp : (0 : Int) < 10 ^ l.length := Int.pow_pos (by decide)
    have e1 : (10 : Int) ^ (l.length + 1) * a = 10 ^ l.length * (10 * a) := by rw [Int.pow_succ, Int.mul_assoc]
    have e2 : (10 : Int) ^ (l.length + 1) * (a + 1) = 10 ^ l.length * (10 * a + 10) := by rw [Int.pow_succ, Int.mul_assoc, Int.mul_add]; rfl
    have e3 : (10 : Int) ^ l.length * (10 * a) ≤ 10 ^ l.length * (10 * a + j + 1) := Int.mul_le_mul_of_nonneg_left (by omega) (by omega)
    have e4 : (10 : Int) ^ l.length * (10 * a + j + 1 + 1) ≤ 10 ^ l.length * (10 * a + 10) := Int.mul_le_mul_of_nonneg_left (by omega) (by omega)
    simp only [cd, List.length_cons]
    rw [e1, e2]
    omega
theorem pmM_lex {n : Nat} (hn : n ≤ 7) : ∀ (r s : Nat) (a : Int), List.Pairwise (fun σ τ => cd a σ < cd a τ) (pmM n r s) := by
  intro r
  induction r with
  | zero => intro s a; unfold pmM; exact List.pairwise_singleton _ _
  | succ r ih =>
    intro s a
    unfold pmM
    refine List.pairwise_flatMap.mpr ⟨fun j hj => ?_, ?_⟩
    · split
      · refine List.pairwise_map.mpr ?_
        exact ih (s ||| 1 <<< j) (10 * a + j + 1)
      · exact List.Pairwise.nil
    · refine List.Pairwise.imp (fun {x y} hxy => ?_) (List.pairwise_lt_range (n := n))
      intro σ hσ τ hτ
      split at hσ
      · split at hτ
        · obtain ⟨σ', h1, rfl⟩ := List.mem_map.mp hσ
          obtain ⟨τ', h2, rfl⟩ := List.mem_map.mp hτ
          obtain ⟨h3, h4⟩ := pmM_mem h1
          obtain ⟨h5, h6⟩ := pmM_mem h2
          have h7 := (cd_b (l := σ') (a := 10 * a + x + 1) (fun z hz => by have := h4 z hz; omega)).2
          have h8 := (cd_b (l := τ') (a := 10 * a + y + 1) (fun z hz => by have := h6 z hz; omega)).1
          rw [h3] at h7
          rw [h5] at h8
          have hp : (0 : Int) < 10 ^ r := Int.pow_pos (by decide)
          have h9 : (10 : Int) ^ r * (10 * a + x + 1 + 1) ≤ 10 ^ r * (10 * a + y + 1) := Int.mul_le_mul_of_nonneg_left (by omega) (by omega)
          simp only [cd]
          omega
        · simp at hτ
      · simp at hσ
theorem pmN_lex {n : Nat} (hn : n ≤ 7) : List.Pairwise (fun σ τ => cd 0 σ < cd 0 τ) (pmN n) := by
  rw [pmN_M hn]; exact pmM_lex hn n 0 0
theorem pmN_nd {n : Nat} (hn : n ≤ 7) : (pmN n).Nodup := by
  refine List.nodup_iff_pairwise_ne.mpr (List.Pairwise.imp (fun {a b} h e => ?_) (pmN_lex hn))
  rw [e] at h
  omega
/-- the place of a permutation tells its code's -/
theorem pm_lt {n : Nat} (hn : n ≤ 7) {a b : Nat} (hb : b < (pmN n).length) (h : a < b) : cd 0 ((pmN n).getD a []) < cd 0 ((pmN n).getD b []) := by
  have h1 := List.pairwise_iff_getElem.mp (pmN_lex hn) a b (by omega) hb h
  rw [List.getD_eq_getElem?_getD, List.getD_eq_getElem?_getD, List.getElem?_eq_getElem hb, List.getElem?_eq_getElem (show a < (pmN n).length by omega)]
  exact h1
