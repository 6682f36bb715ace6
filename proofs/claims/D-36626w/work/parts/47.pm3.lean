/-! THE PLAIN LAW, 3: duals, potentials -/
set_option maxRecDepth 100000
theorem sm_add {f g : Int → Int} : ∀ k : Nat, sm' k (fun i => f i + g i) = sm' k f + sm' k g
  | 0 => rfl
  | k + 1 => by
    show sm' k (fun i => f i + g i) + (f k + g k) = (sm' k f + f k) + (sm' k g + g k)
    rw [sm_add k]; omega
theorem sm_k {c : Int} : ∀ k : Nat, sm' k (fun _ => c) = k * c
  | 0 => by simp [sm']
  | k + 1 => by
    show sm' k (fun _ => c) + c = ((k + 1 : Nat) : Int) * c
    rw [sm_k k, Int.natCast_add, Int.add_mul]; simp
theorem sm_mono {f g : Int → Int} : ∀ {k : Nat}, (∀ i : Int, 0 ≤ i → i < k → f i ≤ g i) → sm' k f ≤ sm' k g
  | 0, _ => Int.le_refl _
  | k + 1, h => by
    show sm' k f + f k ≤ sm' k g + g k
    have h1 := sm_mono (k := k) (fun i i0 i1 => h i i0 (by omega))
    have h2 := h k (by omega) (by omega)
    omega
/-- a sum with one term changed -/
theorem sm_one {f g : Int → Int} {a : Int} : ∀ {k : Nat}, 0 ≤ a → a < k → (∀ i : Int, 0 ≤ i → i < k → i ≠ a → g i = f i) → sm' k g = sm' k f - f a + g a
  | 0, h0, h1, _ => absurd h1 (by omega)
  | k + 1, h0, h1, h => by
    show sm' k g + g k = sm' k f + f k - f a + g a
    by_cases e : a = k
    · rw [sm_cg (k := k) (f := g) (g := f) (fun i i0 i1 => h i i0 (by omega) (by omega)), e]; omega
    · have h2 := h k (by omega) (by omega) (fun z => e z.symm)
      have h3 := sm_one (k := k) h0 (by omega) (fun i i0 i1 hi => h i i0 (by omega) hi)
      omega
theorem sm_b0 {f : Int → Int} : ∀ k : Nat, (∀ i : Int, 0 ≤ i → i < k → 0 ≤ f i) → 0 ≤ sm' k f
  | 0, _ => Int.le_refl _
  | k + 1, h => by
    show 0 ≤ sm' k f + f k
    have h1 := sm_b0 k (fun i i0 i1 => h i i0 (by omega))
    have h2 := h k (by omega) (by omega)
    omega
theorem sm_ge {f : Int → Int} {a : Int} : ∀ {k : Nat}, 0 ≤ a → a < k → (∀ i : Int, 0 ≤ i → i < k → i ≠ a → 0 ≤ f i) → f a ≤ sm' k f
  | 0, _, h1, _ => absurd h1 (by omega)
  | k + 1, h0, h1, h => by
    show f a ≤ sm' k f + f k
    by_cases e : a = k
    · have h2 := sm_b0 (f := f) k (fun i i0 i1 => h i i0 (by omega) (by omega))
      rw [e]; omega
    · have h2 := h k (by omega) (by omega) (fun z => e z.symm)
      have h3 := sm_ge (k := k) h0 (by omega) (fun i i0 i1 hi => h i i0 (by omega) hi)
      omega
theorem ps_sm {C : Int → Int → Int} : ∀ {σ : List Nat} {i : Int}, ps C i σ = sm' σ.length (fun k => C (i + k) (σ.getD k.toNat 0 : Nat)) := by
  intro σ
  induction σ with
  | nil => intro i; rfl
  | cons j l ih =>
    intro i
    rw [List.length_cons, sm_cons]
    simp only [ps]
    rw [ih (i := i + 1), Int.add_zero]
    congr 1
    refine sm_cg (fun k k0 _ => ?_)
    rw [show (k + 1).toNat = k.toNat + 1 by omega, List.getD_cons_succ, show i + 1 + k = i + (k + 1) by omega]
theorem ps_pm {n : Nat} {C : Int → Int → Int} {σ : List Nat} (h : σ ∈ pmN n) : ps C 0 σ = sm' n (fun k => C k (σ.getD k.toNat 0 : Nat)) := by
  rw [ps_sm, (pmN_mem.mp h).1]
  exact sm_cg (fun k _ _ => by rw [Int.zero_add])
/-- a permutation out of a function -/
def pOf (n : Nat) (f : Int → Int) : List Nat := (List.range n).map (fun k : Nat => (f (k : Int)).toNat)
theorem pOf_get {n : Nat} {f : Int → Int} {k : Nat} (h : k < n) : (pOf n f).getD k 0 = (f k).toNat := by
  unfold pOf
  rw [List.getD_eq_getElem?_getD, List.getElem?_map, List.getElem?_range h]
  rfl
theorem pOf_len {n : Nat} {f : Int → Int} : (pOf n f).length = n := by simp [pOf]
theorem nd_of {σ : List Nat} (h : ∀ i j : Nat, i < j → j < σ.length → σ.getD i 0 ≠ σ.getD j 0) : σ.Nodup := by
  refine List.nodup_iff_pairwise_ne.mpr (List.pairwise_iff_getElem.mpr (fun i j hi hj hij => ?_))
  have h1 := h i j hij hj
  rw [List.getD_eq_getElem?_getD, List.getD_eq_getElem?_getD, List.getElem?_eq_getElem hi, List.getElem?_eq_getElem hj] at h1
  exact h1
theorem nd_inj {σ : List Nat} (h : σ.Nodup) {i j : Nat} (hi : i < σ.length) (hj : j < σ.length) (he : σ.getD i 0 = σ.getD j 0) : i = j := by
  have h1 : ∀ i j : Nat, i < j → j < σ.length → σ.getD i 0 ≠ σ.getD j 0 := fun i j hij hj => by
    have h2 := List.pairwise_iff_getElem.mp (List.nodup_iff_pairwise_ne.mp h) i j (by omega) hj hij
    rw [List.getD_eq_getElem?_getD, List.getD_eq_getElem?_getD, List.getElem?_eq_getElem (show i < σ.length by omega), List.getElem?_eq_getElem hj]
    exact h2
  apply Classical.byContradiction
  intro hn
  rcases Nat.lt_or_gt_of_ne hn with z | z
  · exact h1 i j z hj he
  · exact h1 j i z hi he.symm
theorem mem_get {σ : List Nat} {x : Nat} (h : x ∈ σ) : ∃ k, k < σ.length ∧ σ.getD k 0 = x := by
  obtain ⟨k, hk, e⟩ := List.mem_iff_getElem.mp h
  refine ⟨k, hk, ?_⟩
  rw [List.getD_eq_getElem?_getD, List.getElem?_eq_getElem hk]
  exact e
theorem pOf_mem {n : Nat} {f : Int → Int} (h1 : ∀ i : Int, 0 ≤ i → i < n → 0 ≤ f i ∧ f i < n) (h2 : ∀ i j : Int, 0 ≤ i → i < n → 0 ≤ j → j < n → f i = f j → i = j) : pOf n f ∈ pmN n := by
  refine pmN_mem.mpr ⟨pOf_len, nd_of (fun i j hij hj he => ?_), fun x hx => ?_⟩
  · rw [pOf_len] at hj
    rw [pOf_get (by omega), pOf_get hj] at he
    have a1 := h1 i (by omega) (by omega)
    have a2 := h1 j (by omega) (by omega)
    have := h2 i j (by omega) (by omega) (by omega) (by omega) (by omega)
    omega
  · obtain ⟨k, hk, e⟩ := mem_get hx
    rw [pOf_len] at hk
    rw [pOf_get hk] at e
    have := h1 k (by omega) (by omega)
    omega
theorem ps_pOf {n : Nat} {C : Int → Int → Int} {f : Int → Int} (h : pOf n f ∈ pmN n) (h1 : ∀ i : Int, 0 ≤ i → i < n → 0 ≤ f i) : ps C 0 (pOf n f) = sm' n (fun i => C i (f i)) := by
  rw [ps_pm h]
  refine sm_cg (fun i i0 i1 => ?_)
  rw [pOf_get (by omega), Int.toNat_of_nonneg i0, Int.toNat_of_nonneg (h1 i i0 i1)]
/-- a sum over a bijection -/
theorem sm_bij {n : Nat} {f g : Int → Int} (h1 : ∀ i : Int, 0 ≤ i → i < n → 0 ≤ f i ∧ f i < n) (h2 : ∀ i j : Int, 0 ≤ i → i < n → 0 ≤ j → j < n → f i = f j → i = j) : sm' n (fun i => g (f i)) = sm' n g := by
  have h := pOf_mem h1 h2
  rw [← ps_pOf (C := fun _ j => g j) h (fun i i0 i1 => (h1 i i0 i1).1), pm_red (fun _ => 0) g h, sm_k]
  have h3 : ps (fun a b => (fun _ j => g j) a b - (fun _ => (0 : Int)) a - g b) 0 (pOf n f) = 0 := by
    rw [ps_pm h]
    have h4 : ∀ k : Nat, sm' k (fun _ => (0 : Int)) = 0 := fun k => by rw [sm_k]; simp
    exact (sm_cg (g := fun _ => 0) (fun i _ _ => by show g _ - 0 - g _ = 0; omega)).trans (h4 n)
  rw [h3]; simp
/-- duals that are optimal, with a matching on which they are tight -/
def OPT (n : Nat) (C : Int → Int → Int) (u v co ro : Int → Int) : Prop :=
  (∀ i j : Int, 0 ≤ i → i < n → 0 ≤ j → j < n → 0 ≤ C i j - u i - v j) ∧
  (∀ i : Int, 0 ≤ i → i < n → (0 ≤ co i ∧ co i < n) ∧ ro (co i) = i ∧ C i (co i) - u i - v (co i) = 0) ∧
  (∀ j : Int, 0 ≤ j → j < n → (0 ≤ ro j ∧ ro j < n) ∧ co (ro j) = j)
section OPTS
variable {n : Nat} {C : Int → Int → Int} {u v co ro : Int → Int}
theorem OPT.pm (h : OPT n C u v co ro) : pOf n co ∈ pmN n :=
  pOf_mem (fun i i0 i1 => (h.2.1 i i0 i1).1) (fun i j i0 i1 j0 j1 e => by rw [← (h.2.1 i i0 i1).2.1, ← (h.2.1 j j0 j1).2.1, e])
theorem OPT.sum (h : OPT n C u v co ro) : ps C 0 (pOf n co) = sm' n u + sm' n v := by
  rw [pm_red u v h.pm, ps_pOf h.pm (fun i i0 i1 => (h.2.1 i i0 i1).1.1)]
  have h4 : ∀ k : Nat, sm' k (fun _ => (0 : Int)) = 0 := fun k => by rw [sm_k]; simp
  rw [sm_cg (g := fun _ => 0) (fun i i0 i1 => (h.2.1 i i0 i1).2.2), h4]; omega
theorem OPT.ret (h : OPT n C u v co ro) : sm' n (fun i => C i (co i)) = sm' n u + sm' n v := by
  rw [← ps_pOf h.pm (fun i i0 i1 => (h.2.1 i i0 i1).1.1)]; exact h.sum
theorem OPT.nn (h : OPT n C u v co ro) {σ : List Nat} (hσ : σ ∈ pmN n) : 0 ≤ ps (fun a b => C a b - u a - v b) 0 σ := (ps_nn (pA_pm hσ (fun i j i0 i1 j0 j1 => h.1 i j i0 i1 j0 j1))).1
theorem OPT.min (h : OPT n C u v co ro) : MN' n C (sm' n u + sm' n v) :=
  ⟨fun σ hσ => by rw [pm_red u v hσ]; have := h.nn hσ; omega, ⟨_, h.pm, h.sum.symm⟩⟩
theorem OPT.opt (h : OPT n C u v co ro) {σ : List Nat} (hσ : σ ∈ pmN n) : ps C 0 σ = sm' n u + sm' n v ↔ ps (fun a b => C a b - u a - v b) 0 σ = 0 := by
  rw [pm_red u v hσ]; omega
/-- shortest paths from the row of column 0 to all rows, over the other columns -/
def PTH (n : Nat) (C : Int → Int → Int) (u v co ro d od : Int → Int) : Prop :=
  d (ro 0) = 0 ∧ (∀ i : Int, 0 ≤ i → i < n → 0 ≤ d i ∧ 0 ≤ od i) ∧
  (∀ p j : Int, 0 ≤ p → p < n → 1 ≤ j → j < n → d (ro j) ≤ d p + (C p j - u p - v j)) ∧
  (∀ i : Int, 0 ≤ i → i < n → i ≠ ro 0 → ∃ p : Int, 0 ≤ p ∧ p < n ∧ od p < od i ∧ d i = d p + (C p (co i) - u p - v (co i)))
theorem sw_mem {σ : List Nat} (h : σ ∈ pmN n) {a b : Nat} (ha : a < n) (hb : b < n) : sw σ a b ∈ pmN n := by
  obtain ⟨h1, h2, h3⟩ := pmN_mem.mp h
  refine pmN_mem.mpr ⟨by rw [sw_len]; exact h1, nd_of (fun i j hij hj he => ?_), fun x hx => ?_⟩
  · rw [sw_len] at hj
    rw [sw_get (by omega) (by omega), sw_get (by omega) (by omega)] at he
    have inj : ∀ x y : Nat, x < n → y < n → σ.getD x 0 = σ.getD y 0 → x = y := fun x y hx hy e => nd_inj h2 (by omega) (by omega) e
    split at he
    · split at he
      · omega
      · split at he
        · have := inj a b ha hb he; omega
        · have := inj a j ha (by omega) he; omega
    · split at he
      · split at he
        · have := inj b a hb ha he; omega
        · split at he
          · omega
          · have := inj b j hb (by omega) he; omega
      · split at he
        · have := inj i a (by omega) ha he; omega
        · split at he
          · have := inj i b (by omega) hb he; omega
          · have := inj i j (by omega) (by omega) he; omega
  · obtain ⟨k, hk, e⟩ := mem_get hx
    rw [sw_len] at hk
    rw [← e]
    exact sw_lt (σ := σ) (n := n) (by omega) (by omega) (fun k hk => pm_get h (by omega)) k (by rw [sw_len]; exact hk)
theorem ps_sw {R : Int → Int → Int} {σ : List Nat} (h : σ ∈ pmN n) {a b : Nat} (ha : a < n) (hb : b < n) (hab : a ≠ b) :
    ps R 0 (sw σ a b) = ps R 0 σ - R a (σ.getD a 0 : Nat) - R b (σ.getD b 0 : Nat) + R a (σ.getD b 0 : Nat) + R b (σ.getD a 0 : Nat) := by
  have hl := (pmN_mem.mp h).1
  have hg : ∀ k : Nat, k < n → (sw σ a b).getD k 0 = if k = b then σ.getD a 0 else if k = a then σ.getD b 0 else σ.getD k 0 := fun k _ => sw_get (by omega) (by omega)
  rw [ps_pm (sw_mem h ha hb), ps_pm h]
  have e1 := sm_one (k := n) (a := (a : Int)) (f := fun k => R k (σ.getD k.toNat 0 : Nat)) (g := fun k => if k = (a : Int) then R a (σ.getD b 0 : Nat) else R k (σ.getD k.toNat 0 : Nat)) (by omega) (by omega) (fun i _ _ hi => by simp only [if_neg hi])
  have e2 := sm_one (k := n) (a := (b : Int)) (f := fun k => if k = (a : Int) then R a (σ.getD b 0 : Nat) else R k (σ.getD k.toNat 0 : Nat)) (g := fun k => R k ((sw σ a b).getD k.toNat 0 : Nat)) (by omega) (by omega) (fun i i0 i1 hi => by
    show R i ((sw σ a b).getD i.toNat 0 : Nat) = if i = (a : Int) then R a (σ.getD b 0 : Nat) else R i (σ.getD i.toNat 0 : Nat)
    rw [hg i.toNat (by omega), if_neg (by omega)]
    by_cases hia : i = (a : Int)
    · rw [if_pos hia, if_pos (by omega), hia]
    · rw [if_neg hia, if_neg (by omega)])
  rw [e2, e1]
  have hba : ¬ ((b : Int) = (a : Int)) := by omega
  simp only [if_neg hba, if_true]
  have e3 : (sw σ a b).getD ((b : Int)).toNat 0 = σ.getD a 0 := by rw [Int.toNat_natCast, hg b hb, if_pos rfl]
  rw [e3, Int.toNat_natCast, Int.toNat_natCast]
  omega
/-- the best assignment with row i in column 0 -/
theorem PTH.ex (h : OPT n C u v co ro) {d od : Int → Int} (hn : 0 < n) (hP : PTH n C u v co ro d od) : ∀ (f : Nat) (i : Int), 0 ≤ i → i < n → od i < f → ∃ σ ∈ pmN n, σ.getD i.toNat 0 = 0 ∧ ps (fun a b => C a b - u a - v b) 0 σ = d i + (C i 0 - u i - v 0) ∧ ∀ k : Int, 0 ≤ k → k < n → od i < od k → ((σ.getD k.toNat 0 : Nat) : Int) = co k := by
  obtain ⟨p1, p2, p3, p4⟩ := hP
  have r0 := h.2.2 0 (by omega) (by omega)
  intro f
  induction f with
  | zero =>
    intro i i0 i1 ho
    have := (p2 i i0 i1).2
    omega
  | succ f ih =>
    intro i i0 i1 ho
    by_cases hi : i = ro 0
    · subst hi
      have h1 := (h.2.1 (ro 0) r0.1.1 r0.1.2).2.2
      rw [r0.2] at h1
      refine ⟨pOf n co, h.pm, ?_, ?_, fun k k0 k1 _ => ?_⟩
      · rw [pOf_get (by omega), Int.toNat_of_nonneg r0.1.1, r0.2]; rfl
      · rw [(h.opt h.pm).mp h.sum, p1, h1]; rfl
      · rw [pOf_get (by omega), Int.toNat_of_nonneg k0, Int.toNat_of_nonneg (h.2.1 k k0 k1).1.1]
    · obtain ⟨p, q0, q1, q2, q3⟩ := p4 i i0 i1 hi
      obtain ⟨σ, s1, s2, s3, s4⟩ := ih p q0 q1 (by omega)
      have hpi : p ≠ i := fun z => by rw [z] at q2; omega
      have s5 := s4 i i0 i1 q2
      have hl := (pmN_mem.mp s1).1
      have ep : ((p.toNat : Nat) : Int) = p := Int.toNat_of_nonneg q0
      have ei : ((i.toNat : Nat) : Int) = i := Int.toNat_of_nonneg i0
      refine ⟨sw σ p.toNat i.toNat, sw_mem s1 (by omega) (by omega), ?_, ?_, fun k k0 k1 hk => ?_⟩
      · rw [sw_get (by omega) (by omega), if_pos rfl, s2]
      · rw [ps_sw s1 (by omega) (by omega) (by omega), s2, s3, s5, ep, ei, (h.2.1 i i0 i1).2.2, q3]
        simp only [Int.natCast_zero]
        omega
      · have hki : k ≠ i := fun z => by rw [z] at hk; omega
        have hkp : k ≠ p := fun z => by rw [z] at hk; omega
        rw [sw_get (by omega) (by omega), if_neg (by omega), if_neg (by omega)]
        exact s4 k k0 k1 (by omega)
theorem sm_neg {f : Int → Int} : ∀ k : Nat, sm' k (fun i => - f i) = - sm' k f
  | 0 => rfl
  | k + 1 => by
    show sm' k (fun i => - f i) + - f k = - (sm' k f + f k)
    rw [sm_neg k]; omega
theorem PTH.lo (h : OPT n C u v co ro) {d od : Int → Int} (hn : 0 < n) (hP : PTH n C u v co ro d od) {σ : List Nat} (hσ : σ ∈ pmN n) {i : Int} (i0 : 0 ≤ i) (i1 : i < n) (hi : σ.getD i.toNat 0 = 0) : d i + (C i 0 - u i - v 0) ≤ ps (fun a b => C a b - u a - v b) 0 σ := by
  obtain ⟨p1, p2, p3, p4⟩ := hP
  have hb := sm_bij (n := n) (f := ro) (g := d) (fun j j0 j1 => (h.2.2 j j0 j1).1) (fun a b a0 a1 b0 b1 e => by rw [← (h.2.2 a a0 a1).2, ← (h.2.2 b b0 b1).2, e])
  rw [pm_red (fun r => - d r) (fun j => d (ro j)) hσ, sm_neg, hb, ps_pm hσ]
  have hl := (pmN_mem.mp hσ).1
  have h2 := sm_ge (k := n) (a := i) (f := fun k => C k (σ.getD k.toNat 0 : Nat) - u k - v (σ.getD k.toNat 0 : Nat) - - d k - d (ro (σ.getD k.toNat 0 : Nat))) i0 i1 (fun k k0 k1 hk => by
    have h3 := pm_get hσ (k := k.toNat) (by omega)
    have h4 : σ.getD k.toNat 0 ≠ 0 := fun z => by
      have := nd_inj (pmN_mem.mp hσ).2.1 (i := k.toNat) (j := i.toNat) (by omega) (by omega) (by rw [z, hi])
      omega
    have h5 := p3 k (σ.getD k.toNat 0 : Nat) k0 k1 (by omega) (by omega)
    show 0 ≤ C k _ - u k - v _ - - d k - d (ro _)
    omega)
  have h6 : C i 0 - u i - v 0 - - d i - d (ro 0) ≤ sm' n (fun k => C k (σ.getD k.toNat 0 : Nat) - u k - v (σ.getD k.toNat 0 : Nat) - - d k - d (ro (σ.getD k.toNat 0 : Nat))) := by
    have h7 := h2
    simp only [hi, Int.natCast_zero] at h7
    exact h7
  omega
theorem PTH.wth (h : OPT n C u v co ro) {d od : Int → Int} (hn : 0 < n ∧ n < 8) (hb : ∀ σ ∈ pmN n, ps C 0 σ < 1000000) (hP : PTH n C u v co ro d od) {i : Int} (i0 : 0 ≤ i) (i1 : i < n) : lwF C (pmN n) (7 * i) = sm' n u + sm' n v + d i + (C i 0 - u i - v 0) := by
  have hw := lwF_word (C := C) (i := i.toNat) (j := 0) (by decide) (pmN n)
  have ei : 7 * ((i.toNat : Nat) : Int) + ((0 : Nat) : Int) = 7 * i := by omega
  rw [ei] at hw
  obtain ⟨σ, s1, s2, s3, -⟩ := PTH.ex h hn.1 hP (od i + 1).toNat i i0 i1 (by have := (hP.2.1 i i0 i1).2; omega)
  have h1 := hw.1 σ s1 (by have := (pmN_mem.mp s1).1; omega) s2
  have h2 := hb σ s1
  rw [pm_red u v s1, s3] at h1 h2
  rcases hw.2 with z | ⟨τ, t1, t2, t3, t4⟩
  · omega
  · have h3 := PTH.lo h hn.1 hP t1 i0 i1 t3
    rw [pm_red u v t1] at t4
    omega
theorem mnF_eq {f : Int → Int} {z : Int} : ∀ {k : Nat}, (∀ i : Int, 0 ≤ i → i < k → z ≤ f i) → (∃ i : Int, 0 ≤ i ∧ i < k ∧ f i = z) → z ≤ 1000000 → mnF f k = z
  | 0, _, h2, _ => by obtain ⟨i, i0, i1, -⟩ := h2; omega
  | k + 1, h1, h2, h3 => by
    have hle : z ≤ mnF f k := by
      have := mnF_b (f := f) (B := z) h3 (k := k) (fun i i0 i1 => h1 i i0 (by omega))
      exact this.1
    have hk := h1 k (by omega) (by omega)
    unfold mnF
    obtain ⟨i, i0, i1, e⟩ := h2
    by_cases hik : i = k
    · rw [hik] at e
      split <;> omega
    · have h4 := mnF_eq (k := k) (fun i i0 i1 => h1 i i0 (by omega)) ⟨i, i0, by omega, e⟩ h3
      rw [h4]
      split <;> omega
end OPTS
section POT
variable {n m : Int} {h : Int → Int → Int} {u v co ro d od : Int → Int}
/-- the potentials that the model finds -/
theorem POT_u (hn : 1 ≤ n ∧ n ≤ 7) (hC : bC (tC m h) n) (H : OPT n.toNat (tC m h) u v co ro) (hP : PTH n.toNat (tC m h) u v co ro d od) {i : Int} (i0 : 0 ≤ i) (i1 : i < n) : PU n m h i = u i + v 0 - d i ∧ LW n m h (7 * i) ≤ 7000 := by
  have en : ((n.toNat : Nat) : Int) = n := Int.toNat_of_nonneg (by omega)
  have hbn := pm_bnd (n := n.toNat) (by omega) (by rw [en]; exact hC)
  have hb : ∀ σ ∈ pmN n.toNat, ps (tC m h) 0 σ < 1000000 := fun σ hσ => by have := (hbn σ hσ).1; omega
  have h1 := PTH.wth H ⟨by omega, by omega⟩ hb hP i0 (by omega)
  have h2 := MN'.uniq (lkF_mn (by omega) hb).1 H.min
  have h3 : LW n m h (7 * i) ≤ 7000 := by
    obtain ⟨σ, s1, s2, s3, -⟩ := PTH.ex H (by omega) hP (od i + 1).toNat i i0 (by omega) (by have := (hP.2.1 i i0 (by omega)).2; omega)
    have hw := (lwF_word (C := tC m h) (i := i.toNat) (j := 0) (by decide) (pmN n.toNat)).1 σ s1 (by have := (pmN_mem.mp s1).1; omega) s2
    have ei : 7 * ((i.toNat : Nat) : Int) + ((0 : Nat) : Int) = 7 * i := by omega
    rw [ei] at hw
    have := (hbn σ s1).1
    unfold LW; omega
  refine ⟨?_, h3⟩
  unfold PU LK LW
  rw [h1, h2]
  omega
theorem POT_v (hn : 1 ≤ n ∧ n ≤ 7) (hC : bC (tC m h) n) (H : OPT n.toNat (tC m h) u v co ro) (hP : PTH n.toNat (tC m h) u v co ro d od) {j : Int} (j0 : 0 ≤ j) (j1 : j < n) :
    PV n m h j = v j - v 0 + d (ro j) ∧ (∀ i : Int, 0 ≤ i → i < n → v j - v 0 + d (ro j) ≤ tC m h i j - (u i + v 0 - d i)) ∧ (∃ i : Int, 0 ≤ i ∧ i < n ∧ tC m h i j - (u i + v 0 - d i) = v j - v 0 + d (ro j)) ∧ v j - v 0 + d (ro j) ≤ 100000 := by
  have en : ((n.toNat : Nat) : Int) = n := Int.toNat_of_nonneg (by omega)
  have rj := H.2.2 j j0 (by omega)
  have r0 := H.2.2 0 (by omega) (by omega)
  have hlo : ∀ i : Int, 0 ≤ i → i < n → v j - v 0 + d (ro j) ≤ tC m h i j - (u i + v 0 - d i) := fun i i0 i1 => by
    have h1 := H.1 i j i0 (by omega) j0 (by omega)
    by_cases hj : j = 0
    · subst hj
      rw [hP.1]
      have := (hP.2.1 i i0 (by omega)).1
      omega
    · have h2 := hP.2.2.1 i j i0 (by omega) (by omega) (by omega)
      omega
  have h3 := (H.2.1 (ro j) rj.1.1 rj.1.2).2.2
  rw [rj.2] at h3
  have hat : tC m h (ro j) j - (u (ro j) + v 0 - d (ro j)) = v j - v 0 + d (ro j) := by omega
  have hU := POT_u hn hC H hP rj.1.1 (by omega)
  have hlk : 0 ≤ (LK n m h).1 := by
    have hbn := pm_bnd (n := n.toNat) (by omega) (by rw [en]; exact hC)
    have hb : ∀ σ ∈ pmN n.toNat, ps (tC m h) 0 σ < 1000000 := fun σ hσ => by have := (hbn σ hσ).1; omega
    obtain ⟨σ, s1, s2⟩ := (lkF_mn (n := n.toNat) (by omega) hb).1.2
    have := (hbn σ s1).1
    unfold LK; omega
  have hbd : v j - v 0 + d (ro j) ≤ 100000 := by
    have h4 := hC (ro j) j rj.1.1 (by omega) j0 j1
    have h5 := hC (ro j) 0 rj.1.1 (by omega) (by omega) (by omega)
    have h6 := hU.1
    unfold PU at h6
    have := hU.2
    omega
  refine ⟨?_, hlo, ⟨ro j, rj.1.1, by omega, hat⟩, hbd⟩
  unfold PV
  refine mnF_eq (fun i i0 i1 => ?_) ⟨ro j, rj.1.1, rj.1.2, ?_⟩ (by omega)
  · rw [(POT_u hn hC H hP i0 (by omega)).1]; exact hlo i i0 (by omega)
  · rw [hU.1]; exact hat
/-- what the model asks of itself -/
theorem POT_sound (hn : 1 ≤ n ∧ n ≤ 7) (hC : bC (tC m h) n) (H : OPT n.toNat (tC m h) u v co ro) (hP : PTH n.toNat (tC m h) u v co ro d od) :
    (∀ k : Int, 0 ≤ k → k < n → tC m h k (((LK n m h).2.2.2.2.2.getD k.toNat 0 : Nat) : Int) - PU n m h k - PV n m h (((LK n m h).2.2.2.2.2.getD k.toNat 0 : Nat) : Int) = 0) ∧
    (∀ k j : Int, 0 ≤ k → k < n → 0 ≤ j → j < n → 0 ≤ tC m h k j - PU n m h k - PV n m h j) ∧ sm' n.toNat (fun k => PU n m h k + PV n m h k) = (LK n m h).1 := by
  have en : ((n.toNat : Nat) : Int) = n := Int.toNat_of_nonneg (by omega)
  have hbn := pm_bnd (n := n.toNat) (by omega) (by rw [en]; exact hC)
  have hb : ∀ σ ∈ pmN n.toNat, ps (tC m h) 0 σ < 1000000 := fun σ hσ => by have := (hbn σ hσ).1; omega
  obtain ⟨hm, hf0⟩ := lkF_mn (n := n.toNat) (C := tC m h) (by omega) hb
  have hf : (LK n m h).2.2.2.2.2 ∈ pmN n.toNat := hf0
  have hl : (LK n m h).1 = sm' n.toNat u + sm' n.toNat v := hm.uniq H.min
  have hnn : ∀ k j : Int, 0 ≤ k → k < n → 0 ≤ j → j < n → 0 ≤ tC m h k j - PU n m h k - PV n m h j := fun k j k0 k1 j0 j1 => by
    rw [(POT_u hn hC H hP k0 k1).1, (POT_v hn hC H hP j0 j1).1]
    have := (POT_v hn hC H hP j0 j1).2.1 k k0 k1
    omega
  have hsU : sm' n.toNat (PU n m h) = sm' n.toNat u + n * v 0 - sm' n.toNat d := by
    rw [sm_cg (f := PU n m h) (g := fun i => u i + (v 0 + - d i)) (fun i i0 i1 => by rw [(POT_u hn hC H hP i0 (by omega)).1]; omega), sm_add, sm_add, sm_k, sm_neg, en]
    omega
  have hsV : sm' n.toNat (PV n m h) = sm' n.toNat v - n * v 0 + sm' n.toNat d := by
    have hbij := sm_bij (n := n.toNat) (f := ro) (g := d) (fun j j0 j1 => (H.2.2 j j0 j1).1) (fun a b a0 a1 b0 b1 e => by rw [← (H.2.2 a a0 a1).2, ← (H.2.2 b b0 b1).2, e])
    rw [sm_cg (f := PV n m h) (g := fun j => v j + (- v 0 + d (ro j))) (fun j j0 j1 => by rw [(POT_v hn hC H hP j0 (by omega)).1]; omega), sm_add, sm_add, sm_k, hbij, en]
    rw [Int.mul_neg]
    omega
  refine ⟨fun k k0 k1 => ?_, hnn, ?_⟩
  · have h1 : ps (tC m h) 0 (LK n m h).2.2.2.2.2 = sm' n.toNat u + sm' n.toNat v := by
      obtain ⟨⟨l1, l2, e1, e2, -⟩, -⟩ := lkF_word (pmN n.toNat) hb (pm_ne n.toNat (by omega))
      rw [← hl]; exact e2.symm
    rw [pm_red (PU n m h) (PV n m h) hf, hsU, hsV] at h1
    have h2 := (ps_nn (pA_pm hf (fun i j i0 i1 j0 j1 => hnn i j i0 (by omega) j0 (by omega)))).2.mp (by omega)
    exact pA_at hf h2 k0 (by omega)
  · rw [sm_add, hsU, hsV, hl]; omega
end POT
