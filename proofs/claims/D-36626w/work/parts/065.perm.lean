/-! PERMUTATIONS in lexicographic order, and the step from one to the next -/
set_option maxRecDepth 100000
def pmR (n : Nat) : Nat → List Nat → List (List Nat)
  | 0, _ => [[]]
  | r + 1, u => (List.range n).flatMap fun j => if u.contains j then [] else (pmR n r (j :: u)).map (j :: ·)
def pmN (n : Nat) : List (List Nat) := pmR n n []
theorem pmR_mem {n : Nat} : ∀ {r : Nat} {u σ : List Nat}, σ ∈ pmR n r u ↔ σ.length = r ∧ σ.Nodup ∧ ∀ x ∈ σ, x < n ∧ x ∉ u := by
  intro r
  induction r with
  | zero =>
    intro u σ
    simp only [pmR, List.mem_singleton, List.length_eq_zero_iff]
    constructor
    · intro h; subst h; simp
    · intro h; exact h.1
  | succ r ih =>
    intro u σ
    simp only [pmR, List.mem_flatMap, List.mem_range]
    constructor
    · rintro ⟨j, hj, h⟩
      split at h
      · simp at h
      · rename_i hu
        obtain ⟨τ, hτ, rfl⟩ := List.mem_map.mp h
        obtain ⟨h1, h2, h3⟩ := ih.mp hτ
        have hju : j ∉ u := fun z => hu (by simpa using z)
        refine ⟨by simp [h1], List.nodup_cons.mpr ⟨fun z => ?_, h2⟩, fun x hx => ?_⟩
        · exact (h3 j z).2 List.mem_cons_self
        · rcases List.mem_cons.mp hx with e | hx
          · subst e; exact ⟨hj, hju⟩
          · exact ⟨(h3 x hx).1, fun z => (h3 x hx).2 (List.mem_cons_of_mem _ z)⟩
    · rintro ⟨h1, h2, h3⟩
      cases σ with
      | nil => simp at h1
      | cons j τ =>
        have hj := h3 j List.mem_cons_self
        refine ⟨j, hj.1, ?_⟩
        rw [if_neg (by simpa using hj.2)]
        refine List.mem_map.mpr ⟨τ, ih.mpr ⟨by simpa using h1, (List.nodup_cons.mp h2).2, fun x hx => ⟨(h3 x (List.mem_cons_of_mem _ hx)).1, fun z => ?_⟩⟩, rfl⟩
        rcases List.mem_cons.mp z with e | z
        · subst e; exact (List.nodup_cons.mp h2).1 hx
        · exact (h3 x (List.mem_cons_of_mem _ hx)).2 z
theorem pmN_mem {n : Nat} {σ : List Nat} : σ ∈ pmN n ↔ σ.length = n ∧ σ.Nodup ∧ ∀ x ∈ σ, x < n := by
  unfold pmN
  rw [pmR_mem]
  simp
def fc : Nat → Nat
  | 0 => 1
  | n + 1 => (n + 1) * fc n
theorem pm_len : ∀ n, n < 8 → (pmN n).length = fc n := by decide +kernel
/-! the next permutation, as the model makes it -/
def atL (σ : List Nat) : Nat → Nat
  | 0 => 0
  | i + 1 => if σ.getD i 0 > σ.getD (i + 1) 0 then atL σ i else i + 1
def wiL (σ : List Nat) (v : Nat) : Nat → Nat
  | 0 => 0
  | i + 1 => if σ.getD (i + 1) 0 < v then wiL σ v i else i + 1
def sw (σ : List Nat) (a b : Nat) : List Nat := (σ.set a (σ.getD b 0)).set b (σ.getD a 0)
def rvL : Nat → List Nat → Nat → Nat → List Nat
  | 0, σ, _, _ => σ
  | k + 1, σ, low, high => if low < high then rvL k (sw σ low high) (low + 1) (high - 1) else σ
def nxL (n : Nat) (σ : List Nat) : List Nat :=
  if atL σ (n - 1) = 0 then σ else rvL 4 (sw σ (atL σ (n - 1) - 1) (wiL σ (σ.getD (atL σ (n - 1) - 1) 0) (n - 1))) (atL σ (n - 1)) (n - 1)
def nchk (n : Nat) : List (List Nat) → Bool
  | a :: b :: l => nxL n a == b && nchk n (b :: l)
  | _ => true
theorem nchk_app {n : Nat} : ∀ {l1 l2 : List (List Nat)}, nchk n l1 = true → nchk n l2 = true → (∀ a b, l1.getLast? = some a → l2.head? = some b → nxL n a = b) → nchk n (l1 ++ l2) = true := by
  intro l1
  induction l1 with
  | nil => intro l2 _ h _; exact h
  | cons a l1 ih =>
    intro l2 h1 h2 h3
    cases l1 with
    | nil =>
      cases l2 with
      | nil => rfl
      | cons b l2 =>
        show (nxL n a == b && nchk n (b :: l2)) = true
        rw [h2, h3 a b rfl rfl]; simp
    | cons b l1 =>
      simp only [nchk, Bool.and_eq_true] at h1
      show (nxL n a == b && nchk n ((b :: l1) ++ l2)) = true
      rw [h1.1, ih h1.2 h2 (fun x y hx hy => h3 x y (by rw [List.getLast?_cons_cons]; exact hx) hy)]; rfl
theorem nchk6 : ∀ n, n < 7 → nchk n (pmN n) = true := by decide +kernel
theorem ck7_0 : nchk 7 ((pmR 7 6 [0]).map (0 :: ·)) = true := by decide +kernel
theorem ck7_1 : nchk 7 ((pmR 7 6 [1]).map (1 :: ·)) = true := by decide +kernel
theorem ck7_2 : nchk 7 ((pmR 7 6 [2]).map (2 :: ·)) = true := by decide +kernel
theorem ck7_3 : nchk 7 ((pmR 7 6 [3]).map (3 :: ·)) = true := by decide +kernel
theorem ck7_4 : nchk 7 ((pmR 7 6 [4]).map (4 :: ·)) = true := by decide +kernel
theorem ck7_5 : nchk 7 ((pmR 7 6 [5]).map (5 :: ·)) = true := by decide +kernel
theorem ck7_6 : nchk 7 ((pmR 7 6 [6]).map (6 :: ·)) = true := by decide +kernel
theorem pm_first : ∀ n, n < 8 → (pmN n).head? = some (List.range n) := by decide +kernel
theorem nchk_at {n : Nat} : ∀ {l : List (List Nat)} {k : Nat} {a b : List Nat}, nchk n l = true → l[k]? = some a → l[k + 1]? = some b → nxL n a = b := by
  intro l
  induction l with
  | nil => intro k a b _ h; simp at h
  | cons c l ih =>
    intro k a b h h1 h2
    cases l with
    | nil => simp at h2
    | cons c' l =>
      simp only [nchk, Bool.and_eq_true, beq_iff_eq] at h
      cases k with
      | zero =>
        simp at h1 h2
        rw [← h1, ← h2]; exact h.1
      | succ k => exact ih h.2 (by simpa using h1) (by simpa using h2)
/-! sums and the like over a permutation -/
def ps (C : Int → Int → Int) : Int → List Nat → Int
  | _, [] => 0
  | i, j :: l => C i j + ps C (i + 1) l
def pd (C : Int → Int → Int) : Int → List Nat → Int → Int
  | _, [], a => a
  | i, j :: l, a => pd C (i + 1) l (if a < C i j then C i j else a)
theorem ps_take {C : Int → Int → Int} : ∀ {σ : List Nat} {k : Nat} {i : Int}, k < σ.length → ps C i (σ.take (k + 1)) = ps C i (σ.take k) + C (i + k) (σ.getD k 0 : Nat) := by
  intro σ
  induction σ with
  | nil => intro k i h; simp at h
  | cons j l ih =>
    intro k i h
    cases k with
    | zero => simp [ps]
    | succ k =>
      have h1 := ih (k := k) (i := i + 1) (by simpa using h)
      simp only [List.take_succ_cons, ps, List.getD_cons_succ]
      rw [h1, show i + 1 + (k : Int) = i + ((k + 1 : Nat) : Int) by omega]
      omega
theorem pd_take {C : Int → Int → Int} : ∀ {σ : List Nat} {k : Nat} {i a : Int}, k < σ.length → pd C i (σ.take (k + 1)) a = (if pd C i (σ.take k) a < C (i + k) (σ.getD k 0 : Nat) then C (i + k) (σ.getD k 0 : Nat) else pd C i (σ.take k) a) := by
  intro σ
  induction σ with
  | nil => intro k i a h; simp at h
  | cons j l ih =>
    intro k i a h
    cases k with
    | zero => simp [pd]
    | succ k =>
      have h1 := ih (k := k) (i := i + 1) (a := if a < C i j then C i j else a) (by simpa using h)
      simp only [List.take_succ_cons, pd, List.getD_cons_succ]
      rw [h1, show i + 1 + (k : Int) = i + ((k + 1 : Nat) : Int) by omega]
theorem sw_len {σ : List Nat} {a b : Nat} : (sw σ a b).length = σ.length := by simp [sw]
theorem sw_get {σ : List Nat} {a b k : Nat} (ha : a < σ.length) (hb : b < σ.length) : (sw σ a b).getD k 0 = if k = b then σ.getD a 0 else if k = a then σ.getD b 0 else σ.getD k 0 := by
  unfold sw
  simp only [List.getD_eq_getElem?_getD]
  by_cases h1 : k = b
  · subst h1
    rw [if_pos rfl, List.getElem?_set_self (by simpa using hb)]; rfl
  · rw [if_neg h1, List.getElem?_set_ne (Ne.symm h1)]
    by_cases h2 : k = a
    · subst h2
      rw [if_pos rfl, List.getElem?_set_self ha]; rfl
    · rw [if_neg h2, List.getElem?_set_ne (Ne.symm h2)]
theorem sw_lt {σ : List Nat} {a b n : Nat} (ha : a < σ.length) (hb : b < σ.length) (h : ∀ k, k < σ.length → σ.getD k 0 < n) : ∀ k, k < (sw σ a b).length → (sw σ a b).getD k 0 < n := by
  intro k hk
  rw [sw_len] at hk
  rw [sw_get ha hb]
  split
  · exact h a ha
  · split
    · exact h b hb
    · exact h k hk
theorem rvL_stop {f : Nat} {σ : List Nat} {low high : Nat} (h : ¬ low < high) : rvL f σ low high = σ := by
  cases f with
  | zero => rfl
  | succ f => simp [rvL, h]
