/-! THE PLAIN LAW, 1: sums over permutations; what a look finds, in words -/
set_option maxRecDepth 100000
def sl (f : Nat → Int) : List Nat → Int
  | [] => 0
  | a :: l => f a + sl f l
theorem sl_perm {f : Nat → Int} {l l' : List Nat} (h : l.Perm l') : sl f l = sl f l' := by
  induction h with
  | nil => rfl
  | cons a _ ih => simp only [sl, ih]
  | swap a b l => simp only [sl]; omega
  | trans _ _ ih1 ih2 => rw [ih1, ih2]
theorem sl_app {f : Nat → Int} {l l' : List Nat} : sl f (l ++ l') = sl f l + sl f l' := by
  induction l with
  | nil => simp [sl]
  | cons a l ih => simp only [List.cons_append, sl, ih]; omega
theorem sl_range {f : Int → Int} : ∀ n : Nat, sl (fun k => f k) (List.range n) = sm' n f
  | 0 => rfl
  | n + 1 => by
    rw [List.range_succ, sl_app, sl_range n]
    simp [sl, sm']
theorem pm_full {n : Nat} {σ : List Nat} (h : σ ∈ pmN n) {a : Nat} (ha : a < n) : a ∈ σ := by
  obtain ⟨h1, h2, h3⟩ := pmN_mem.mp h
  apply Classical.byContradiction
  intro hn
  have h4 : (a :: σ).Nodup := List.nodup_cons.mpr ⟨hn, h2⟩
  have h5 := List.Nodup.length_le_of_subset h4 (l₂ := List.range n) (fun x hx => by
    rcases List.mem_cons.mp hx with e | hx
    · rw [e]; exact List.mem_range.mpr ha
    · exact List.mem_range.mpr (h3 x hx))
  simp at h5
  omega
theorem pm_perm {n : Nat} {σ : List Nat} (h : σ ∈ pmN n) : σ.Perm (List.range n) := by
  obtain ⟨h1, h2, h3⟩ := pmN_mem.mp h
  exact (List.perm_ext_iff_of_nodup h2 List.nodup_range).mpr (fun a => ⟨fun ha => List.mem_range.mpr (h3 a ha), fun ha => pm_full h (List.mem_range.mp ha)⟩)
theorem sm_cons {f : Int → Int} : ∀ k : Nat, sm' (k + 1) f = f 0 + sm' k (fun i => f (i + 1))
  | 0 => by simp [sm']
  | k + 1 => by
    show sm' (k + 1) f + f ((k + 1 : Nat) : Int) = f 0 + (sm' k (fun i => f (i + 1)) + f ((k : Int) + 1))
    rw [sm_cons k, show ((k + 1 : Nat) : Int) = (k : Int) + 1 by omega]
    omega
theorem ps_u {u : Int → Int} : ∀ {σ : List Nat} {i : Int}, ps (fun a _ => u a) i σ = sm' σ.length (fun k => u (i + k)) := by
  intro σ
  induction σ with
  | nil => intro i; rfl
  | cons j l ih =>
    intro i
    rw [List.length_cons, sm_cons]
    simp only [ps]
    rw [ih (i := i + 1), Int.add_zero]
    congr 1
    exact sm_cg (fun k _ _ => by rw [show i + 1 + k = i + (k + 1) by omega])
theorem ps_split {C : Int → Int → Int} {u v : Int → Int} : ∀ {σ : List Nat} {i : Int}, ps C i σ = ps (fun a b => C a b - u a - v b) i σ + ps (fun a _ => u a) i σ + sl (fun k => v k) σ := by
  intro σ
  induction σ with
  | nil => intro i; rfl
  | cons j l ih =>
    intro i
    have h := ih (i := i + 1)
    simp only [ps, sl] at h ⊢
    omega
theorem pm_red {n : Nat} {C : Int → Int → Int} {σ : List Nat} (u v : Int → Int) (h : σ ∈ pmN n) : ps C 0 σ = ps (fun a b => C a b - u a - v b) 0 σ + sm' n u + sm' n v := by
  rw [ps_split (u := u) (v := v), ps_u, (pmN_mem.mp h).1, sl_perm (pm_perm h), sl_range]
  congr 2
  exact sm_cg (fun k _ _ => by rw [Int.zero_add])
theorem ps_cgL {C C' : Int → Int → Int} : ∀ {σ : List Nat} {i : Int}, (∀ k : Nat, k < σ.length → C (i + k) (σ.getD k 0 : Nat) = C' (i + k) (σ.getD k 0 : Nat)) → ps C i σ = ps C' i σ := by
  intro σ
  induction σ with
  | nil => intro i _; rfl
  | cons j l ih =>
    intro i h
    have h0 := h 0 (by simp)
    simp only [List.getD_cons_zero, Int.natCast_zero, Int.add_zero] at h0
    simp only [ps]
    rw [h0, ih (i := i + 1) (fun k hk => by
      have h1 := h (k + 1) (by simpa using hk)
      rw [List.getD_cons_succ, show i + ((k + 1 : Nat) : Int) = i + 1 + (k : Int) by omega] at h1
      exact h1)]
theorem pm_get {n : Nat} {σ : List Nat} (h : σ ∈ pmN n) {k : Nat} (hk : k < n) : σ.getD k 0 < n := by
  obtain ⟨h1, h2, h3⟩ := pmN_mem.mp h
  exact h3 _ (getD_mem (by omega))
theorem ps_cgp {n : Nat} {C C' : Int → Int → Int} {σ : List Nat} (h : σ ∈ pmN n) (hc : ∀ i j : Int, 0 ≤ i → i < n → 0 ≤ j → j < n → C i j = C' i j) : ps C 0 σ = ps C' 0 σ := by
  refine ps_cgL (fun k hk => ?_)
  have h1 := (pmN_mem.mp h).1
  have h2 := pm_get h (k := k) (by omega)
  exact hc _ _ (by omega) (by omega) (by omega) (by omega)
/-- all cells of a permutation, from row i on -/
def pA (Z : Int → Int → Prop) : Int → List Nat → Prop
  | _, [] => True
  | i, j :: l => Z i j ∧ pA Z (i + 1) l
theorem pA_iff {Z : Int → Int → Prop} : ∀ {σ : List Nat} {i : Int}, pA Z i σ ↔ ∀ k : Nat, k < σ.length → Z (i + k) (σ.getD k 0 : Nat) := by
  intro σ
  induction σ with
  | nil => intro i; simp [pA]
  | cons j l ih =>
    intro i
    simp only [pA]
    rw [ih]
    constructor
    · rintro ⟨h1, h2⟩ k hk
      cases k with
      | zero => simpa using h1
      | succ k =>
        have h3 := h2 k (by simpa using hk)
        rw [List.getD_cons_succ, show i + ((k + 1 : Nat) : Int) = i + 1 + (k : Int) by omega]
        exact h3
    · intro h
      refine ⟨by simpa using h 0 (by simp), fun k hk => ?_⟩
      have h3 := h (k + 1) (by simpa using hk)
      rw [List.getD_cons_succ, show i + ((k + 1 : Nat) : Int) = i + 1 + (k : Int) by omega] at h3
      exact h3
theorem ps_nn {R : Int → Int → Int} : ∀ {σ : List Nat} {i : Int}, pA (fun a b => 0 ≤ R a b) i σ → 0 ≤ ps R i σ ∧ (ps R i σ = 0 ↔ pA (fun a b => R a b = 0) i σ) := by
  intro σ
  induction σ with
  | nil => intro i _; simp [ps, pA]
  | cons j l ih =>
    intro i h
    obtain ⟨h1, h2⟩ := h
    obtain ⟨h3, h4⟩ := ih h2
    simp only [ps, pA]
    refine ⟨by omega, fun h => ?_, fun h => ?_⟩
    · exact ⟨by omega, h4.mp (by omega)⟩
    · have := h4.mpr h.2
      omega
theorem pA_pm {n : Nat} {Z : Int → Int → Prop} {σ : List Nat} (h : σ ∈ pmN n) (hz : ∀ i j : Int, 0 ≤ i → i < n → 0 ≤ j → j < n → Z i j) : pA Z 0 σ := by
  refine pA_iff.mpr (fun k hk => ?_)
  have h1 := (pmN_mem.mp h).1
  have h2 := pm_get h (k := k) (by omega)
  exact hz _ _ (by omega) (by omega) (by omega) (by omega)
theorem pA_at {n : Nat} {Z : Int → Int → Prop} {σ : List Nat} (h : σ ∈ pmN n) (hz : pA Z 0 σ) {i : Int} (i0 : 0 ≤ i) (i1 : i < n) : Z i (σ.getD i.toNat 0 : Nat) := by
  have h1 := pA_iff.mp hz i.toNat (by have := (pmN_mem.mp h).1; omega)
  rw [show 0 + (i.toNat : Int) = i by omega] at h1
  exact h1
theorem pd_le {C : Int → Int → Int} {L : Int} : ∀ {σ : List Nat} {i a : Int}, pd C i σ a ≤ L ↔ a ≤ L ∧ pA (fun x y => C x y ≤ L) i σ := by
  intro σ
  induction σ with
  | nil => intro i a; simp [pd, pA]
  | cons j l ih =>
    intro i a
    simp only [pd, pA]
    rw [ih]
    constructor
    · rintro ⟨h1, h2⟩
      split at h1
      · exact ⟨by omega, h1, h2⟩
      · exact ⟨h1, by omega, h2⟩
    · rintro ⟨h1, h2, h3⟩
      refine ⟨by split <;> omega, h3⟩
theorem pd_is {C : Int → Int → Int} {Z : Int → Prop} : ∀ {σ : List Nat} {i a : Int}, Z a → pA (fun x y => Z (C x y)) i σ → Z (pd C i σ a) := by
  intro σ
  induction σ with
  | nil => intro i a h _; exact h
  | cons j l ih =>
    intro i a h h2
    simp only [pd]
    refine ih ?_ h2.2
    split
    · exact h2.1
    · exact h
/-! the fold -/
theorem snocInd {α : Type} {P : List α → Prop} (h0 : P []) (h1 : ∀ l a, P l → P (l ++ [a])) : ∀ l, P l := by
  have h : ∀ r : List α, P r.reverse := by
    intro r
    induction r with
    | nil => exact h0
    | cons a r ih => rw [List.reverse_cons]; exact h1 _ _ ih
  intro l
  rw [← List.reverse_reverse l]
  exact h _
/-- what the fold of a list that is not empty says -/
def LKw (C : Int → Int → Int) (l : List (List Nat)) (p : LKt) : Prop :=
  (∃ l1 l2, l = l1 ++ p.2.2.2.2.2 :: l2 ∧ p.1 = ps C 0 p.2.2.2.2.2 ∧ (∀ τ ∈ l1, p.1 < ps C 0 τ) ∧ (∀ τ ∈ l2, p.1 ≤ ps C 0 τ) ∧ (∀ τ, τ ∈ l1 ∨ τ ∈ l2 → p.2.2.1 ≤ ps C 0 τ) ∧ ((p.2.2.1 = 1000000 ∧ l1 = [] ∧ l2 = []) ∨ ∃ τ, (τ ∈ l1 ∨ τ ∈ l2) ∧ p.2.2.1 = ps C 0 τ)) ∧
  p.2.1 = (l.countP (fun τ => decide (ps C 0 τ = p.1)) : Nat)
theorem LKw_one {C : Int → Int → Int} {σ : List Nat} (h : ps C 0 σ < 1000000) : LKw C [σ] (stp C lk0 σ) := by
  unfold LKw stp lk0
  simp only [if_pos h]
  refine ⟨⟨[], [], (by first | trivial | rfl), (by first | trivial | rfl), fun τ h => absurd h List.not_mem_nil, fun τ h => absurd h List.not_mem_nil, fun τ h => ?_, Or.inl ⟨(by first | trivial | rfl), (by first | trivial | rfl), (by first | trivial | rfl)⟩⟩, by simp⟩
  rcases h with h | h <;> exact absurd h List.not_mem_nil
theorem LKw_step {C : Int → Int → Int} {l : List (List Nat)} {p : LKt} {σ : List Nat} (h : LKw C l p) (hs : ps C 0 σ < 1000000) : LKw C (l ++ [σ]) (stp C p σ) := by
  obtain ⟨a, b, c, d, e, f⟩ := p
  obtain ⟨⟨l1, l2, e1, e2, e3, e4, e5, e6⟩, e7⟩ := h
  simp only [] at e1 e2 e3 e4 e5 e6 e7
  unfold LKw stp
  simp only []
  by_cases hc : ps C 0 σ < a
  · simp only [if_pos hc]
    have hall : ∀ τ ∈ l, a ≤ ps C 0 τ := by
      intro τ hτ
      rw [e1] at hτ
      rcases List.mem_append.mp hτ with z | z
      · have := e3 τ z; omega
      · rcases List.mem_cons.mp z with z | z
        · rw [z]; omega
        · exact e4 τ z
    refine ⟨⟨l, [], (by first | trivial | rfl), (by first | trivial | rfl), fun τ hτ => by have := hall τ hτ; omega, fun τ h => absurd h List.not_mem_nil, fun τ hτ => ?_, Or.inr ⟨f, Or.inl (by rw [e1]; simp), e2⟩⟩, ?_⟩
    · rcases hτ with z | z
      · exact hall τ z
      · exact absurd z List.not_mem_nil
    · rw [List.countP_append, List.countP_eq_zero.mpr (fun τ hτ => by have := hall τ hτ; simp; omega)]
      simp
  · simp only [if_neg hc]
    refine ⟨⟨l1, l2 ++ [σ], by rw [e1]; simp, e2, e3, fun τ hτ => ?_, fun τ hτ => ?_, ?_⟩, ?_⟩
    · rcases List.mem_append.mp hτ with z | z
      · exact e4 τ z
      · rw [List.mem_singleton.mp z]; omega
    · have h1 : (if ps C 0 σ < c then ps C 0 σ else c) ≤ c ∧ (if ps C 0 σ < c then ps C 0 σ else c) ≤ ps C 0 σ := by split <;> omega
      rcases hτ with z | z
      · have := e5 τ (Or.inl z); omega
      · rcases List.mem_append.mp z with z | z
        · have := e5 τ (Or.inr z); omega
        · rw [List.mem_singleton.mp z]; exact h1.2
    · by_cases h2 : ps C 0 σ < c
      · exact Or.inr ⟨σ, Or.inr (by simp), if_pos h2⟩
      · rw [if_neg h2]
        rcases e6 with ⟨z, -, -⟩ | ⟨τ, z, z2⟩
        · omega
        · refine Or.inr ⟨τ, ?_, z2⟩
          rcases z with z | z
          · exact Or.inl z
          · exact Or.inr (List.mem_append.mpr (Or.inl z))
    · rw [List.countP_append, e7]
      by_cases h2 : ps C 0 σ = a
      · simp [h2]
      · simp [h2]
theorem lkF_word {C : Int → Int → Int} : ∀ l : List (List Nat), (∀ σ ∈ l, ps C 0 σ < 1000000) → l ≠ [] → LKw C l (lkF C l) := by
  refine snocInd (fun _ h => absurd rfl h) (fun l a ih hs hl => ?_)
  rw [lkF_snoc]
  by_cases h : l = []
  · subst h
    exact LKw_one (hs a (by simp))
  · exact LKw_step (ih (fun σ hσ => hs σ (List.mem_append.mpr (Or.inl hσ))) h) (hs a (by simp))
theorem lkF_most {C : Int → Int → Int} : ∀ l : List (List Nat), (∀ σ ∈ l, ps C 0 σ < 1000 → ps C 0 σ ≤ (lkF C l).2.2.2.1) ∧ ((lkF C l).2.2.2.1 = -1 ∨ ∃ σ ∈ l, ps C 0 σ < 1000 ∧ (lkF C l).2.2.2.1 = ps C 0 σ) := by
  refine snocInd ⟨fun σ h => absurd h List.not_mem_nil, Or.inl rfl⟩ (fun l a ih => ?_)
  rw [lkF_snoc]
  generalize lkF C l = p at ih
  obtain ⟨p1, p2, p3, p4, p5, p6⟩ := p
  obtain ⟨h1, h2⟩ := ih
  simp only [] at h1 h2
  unfold stp
  simp only []
  have hb : p4 ≤ (if ps C 0 a < 1000 ∧ p4 < ps C 0 a then ps C 0 a else p4) ∧ (ps C 0 a < 1000 → ps C 0 a ≤ (if ps C 0 a < 1000 ∧ p4 < ps C 0 a then ps C 0 a else p4)) := by split <;> omega
  refine ⟨fun σ hσ hl => ?_, ?_⟩
  · rcases List.mem_append.mp hσ with z | z
    · have := h1 σ z hl; omega
    · rw [List.mem_singleton.mp z] at hl ⊢; exact hb.2 hl
  · by_cases hc : ps C 0 a < 1000 ∧ p4 < ps C 0 a
    · exact Or.inr ⟨a, by simp, hc.1, if_pos hc⟩
    · rw [if_neg hc]
      rcases h2 with z | ⟨σ, z1, z2, z3⟩
      · exact Or.inl z
      · exact Or.inr ⟨σ, List.mem_append.mpr (Or.inl z1), z2, z3⟩
theorem lkF_narrow {C : Int → Int → Int} : ∀ l : List (List Nat), (∀ σ ∈ l, (lkF C l).2.2.2.2.1 ≤ pd C 0 σ 0) ∧ ((lkF C l).2.2.2.2.1 = 1000000 ∨ ∃ σ ∈ l, (lkF C l).2.2.2.2.1 = pd C 0 σ 0) := by
  refine snocInd ⟨fun σ h => absurd h List.not_mem_nil, Or.inl rfl⟩ (fun l a ih => ?_)
  rw [lkF_snoc]
  generalize lkF C l = p at ih
  obtain ⟨p1, p2, p3, p4, p5, p6⟩ := p
  obtain ⟨h1, h2⟩ := ih
  simp only [] at h1 h2
  unfold stp
  simp only []
  have hb : (if pd C 0 a 0 < p5 then pd C 0 a 0 else p5) ≤ p5 ∧ (if pd C 0 a 0 < p5 then pd C 0 a 0 else p5) ≤ pd C 0 a 0 := by split <;> omega
  refine ⟨fun σ hσ => ?_, ?_⟩
  · rcases List.mem_append.mp hσ with z | z
    · have := h1 σ z; omega
    · rw [List.mem_singleton.mp z]; exact hb.2
  · by_cases hc : pd C 0 a 0 < p5
    · exact Or.inr ⟨a, by simp, if_pos hc⟩
    · rw [if_neg hc]
      rcases h2 with z | ⟨σ, z1, z2⟩
      · exact Or.inl z
      · exact Or.inr ⟨σ, List.mem_append.mpr (Or.inl z1), z2⟩
theorem lwF_word {C : Int → Int → Int} {i j : Nat} (hj : j < 7) : ∀ l : List (List Nat), (∀ σ ∈ l, i < σ.length → σ.getD i 0 = j → lwF C l (7 * i + j) ≤ ps C 0 σ) ∧ (lwF C l (7 * i + j) = 1000000 ∨ ∃ σ ∈ l, i < σ.length ∧ σ.getD i 0 = j ∧ lwF C l (7 * i + j) = ps C 0 σ) := by
  refine snocInd ⟨fun σ h => absurd h List.not_mem_nil, Or.inl rfl⟩ (fun l a ih => ?_)
  rw [lwF_snoc]
  generalize lwF C l = wf at ih
  obtain ⟨h1, h2⟩ := ih
  have e1 : ((7 * (i : Int) + (j : Int)) / 7).toNat = i := by omega
  have e2 : (7 * (i : Int) + (j : Int)) % 7 = (j : Int) := by omega
  unfold seeW
  rw [e1, e2]
  refine ⟨fun σ hσ hl hg => ?_, ?_⟩
  · rcases List.mem_append.mp hσ with z | z
    · have := h1 σ z hl hg
      split <;> omega
    · rw [List.mem_singleton.mp z] at hl hg ⊢
      split
      · omega
      · rename_i hc
        have : ¬ ps C 0 a < wf (7 * (i : Int) + (j : Int)) := fun z => hc ⟨hl, by omega, z⟩
        omega
  · split
    · rename_i hc
      exact Or.inr ⟨a, by simp, hc.1, by omega, rfl⟩
    · rcases h2 with z | ⟨σ, z1, z2⟩
      · exact Or.inl z
      · exact Or.inr ⟨σ, List.mem_append.mpr (Or.inl z1), z2⟩
theorem pm_ne : ∀ n, n < 8 → pmN n ≠ [] := by
  intro n hn h
  have := pm_first n hn
  rw [h] at this
  simp at this
/-- z is the least sum -/
def MN' (n : Nat) (C : Int → Int → Int) (z : Int) : Prop := (∀ σ ∈ pmN n, z ≤ ps C 0 σ) ∧ ∃ σ ∈ pmN n, z = ps C 0 σ
theorem MN'.uniq {n : Nat} {C : Int → Int → Int} {a b : Int} (h : MN' n C a) (h2 : MN' n C b) : a = b := by
  obtain ⟨σ, s1, s2⟩ := h.2
  obtain ⟨τ, t1, t2⟩ := h2.2
  have h3 := h.1 τ t1
  have h4 := h2.1 σ s1
  omega
theorem lkF_mn {n : Nat} {C : Int → Int → Int} (hn : n < 8) (hb : ∀ σ ∈ pmN n, ps C 0 σ < 1000000) : MN' n C (lkF C (pmN n)).1 ∧ (lkF C (pmN n)).2.2.2.2.2 ∈ pmN n := by
  obtain ⟨⟨l1, l2, e1, e2, e3, e4, e5, e6⟩, e7⟩ := lkF_word (pmN n) hb (pm_ne n hn)
  have hm : (lkF C (pmN n)).2.2.2.2.2 ∈ pmN n := by
    have h : (lkF C (pmN n)).2.2.2.2.2 ∈ l1 ++ (lkF C (pmN n)).2.2.2.2.2 :: l2 := by simp
    rwa [← e1] at h
  refine ⟨⟨fun σ hσ => ?_, ⟨_, hm, e2⟩⟩, hm⟩
  rw [e1] at hσ
  rcases List.mem_append.mp hσ with z | z
  · have := e3 σ z; omega
  · rcases List.mem_cons.mp z with z | z
    · rw [z, ← e2]; exact Int.le_refl _
    · exact e4 σ z
