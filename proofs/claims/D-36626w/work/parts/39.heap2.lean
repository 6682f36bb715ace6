/-! HEAPS: an array of things with a rank -/
set_option maxRecDepth 100000
def HPo (rk : Int → Int) (B : Int → Int) (n : Int) : Prop := ∀ i : Int, 1 ≤ i → i < n → rk (B ((i - 1) / 2)) ≤ rk (B i)
/-- the first n are the members of S, each once -/
def PMo (B : Int → Int) (n : Int) (S : Int → Prop) : Prop := (∀ i j : Int, 0 ≤ i → i < n → 0 ≤ j → j < n → B i = B j → i = j) ∧ ∀ r, S r ↔ ∃ i : Int, 0 ≤ i ∧ i < n ∧ B i = r
def sto (B : Int → Int) (k v : Int) : Int → Int := fun i => if i = k then v else B i
theorem HPo.min {rk B : Int → Int} {n : Int} (H : HPo rk B n) : ∀ (f : Nat) (i : Int), 0 ≤ i → i < n → i < f → rk (B 0) ≤ rk (B i) := by
  intro f
  induction f with
  | zero => intro i _ _ h; omega
  | succ f ih =>
    intro i h0 h1 h2
    by_cases hi : i = 0
    · rw [hi]; exact Int.le_refl _
    · have h3 := H i (by omega) h1
      have h4 := ih ((i - 1) / 2) (by omega) (by omega) (by omega)
      omega
theorem PMo.cg {B B' : Int → Int} {n : Int} {S : Int → Prop} (H : PMo B n S) (h : ∀ i : Int, 0 ≤ i → i < n → B' i = B i) : PMo B' n S := by
  refine ⟨fun i j i0 i1 j0 j1 e => H.1 i j i0 i1 j0 j1 (by rw [← h i i0 i1, ← h j j0 j1]; exact e), fun r => ?_⟩
  rw [H.2 r]
  constructor
  · rintro ⟨i, i0, i1, e⟩; exact ⟨i, i0, i1, (h i i0 i1).trans e⟩
  · rintro ⟨i, i0, i1, e⟩; exact ⟨i, i0, i1, (h i i0 i1).symm.trans e⟩
/-- two places exchanged -/
theorem PMo.sw {B B' : Int → Int} {n p k : Int} {S : Int → Prop} (H : PMo B n S) (hp : 0 ≤ p ∧ p < n) (hk : 0 ≤ k ∧ k < n) (h1 : B' k = B p) (h2 : B' p = B k) (h3 : ∀ i, i ≠ k → i ≠ p → B' i = B i) : PMo B' n S := by
  have hB : ∀ i : Int, B' i = B (if i = k then p else if i = p then k else i) := fun i => by
    by_cases e1 : i = k
    · rw [if_pos e1, e1]; exact h1
    · rw [if_neg e1]
      by_cases e2 : i = p
      · rw [if_pos e2, e2]; exact h2
      · rw [if_neg e2]; exact h3 i e1 e2
  refine ⟨fun i j i0 i1 j0 j1 e => ?_, fun r => ?_⟩
  · rw [hB i, hB j] at e
    have := H.1 _ _ (by (repeat' split) <;> omega) (by (repeat' split) <;> omega) (by (repeat' split) <;> omega) (by (repeat' split) <;> omega) e
    omega
  · rw [H.2 r]
    constructor
    · rintro ⟨i, i0, i1, e⟩
      refine ⟨if i = k then p else if i = p then k else i, by (repeat' split) <;> omega, by (repeat' split) <;> omega, ?_⟩
      rw [hB, ← e]
      congr 1
      (repeat' split) <;> omega
    · rintro ⟨i, i0, i1, e⟩
      rw [hB i] at e
      exact ⟨_, by (repeat' split) <;> omega, by (repeat' split) <;> omega, e⟩
/-- the hole at k with x on its way up -/
def UPo (rk A : Int → Int) (n k x : Int) : Prop := (∀ i : Int, 1 ≤ i → i < n → i ≠ k → (i - 1) / 2 ≠ k → rk (A ((i - 1) / 2)) ≤ rk (A i)) ∧ (∀ i : Int, 1 ≤ i → i < n → (i - 1) / 2 = k → rk x ≤ rk (A i) ∧ (1 ≤ k → rk (A ((k - 1) / 2)) ≤ rk (A i)))
theorem UPo.step {rk A : Int → Int} {n k x : Int} (H : UPo rk A n k x) (hk : 1 ≤ k ∧ k < n) (hc : rk x < rk (A ((k - 1) / 2))) : UPo rk (sto A k (A ((k - 1) / 2))) n ((k - 1) / 2) x := by
  refine ⟨fun i i1 i2 i3 i4 => ?_, fun i i1 i2 i3 => ?_⟩
  · unfold sto
    by_cases h1 : i = k
    · exact absurd (by rw [h1]) i4
    · rw [if_neg h1]
      by_cases h2 : (i - 1) / 2 = k
      · rw [if_pos h2]; exact (H.2 i i1 i2 h2).2 hk.1
      · rw [if_neg h2]; exact H.1 i i1 i2 h1 h2
  · unfold sto
    by_cases h1 : i = k
    · rw [if_pos h1]
      refine ⟨by omega, fun h2 => ?_⟩
      rw [if_neg (by omega)]
      exact H.1 ((k - 1) / 2) h2 (by omega) (by omega) (by omega)
    · rw [if_neg h1]
      have h3 := H.1 i i1 i2 h1 (by omega)
      rw [i3] at h3
      refine ⟨by omega, fun h2 => ?_⟩
      rw [if_neg (by omega)]
      have h4 := H.1 ((k - 1) / 2) h2 (by omega) (by omega) (by omega)
      omega
theorem UPo.stop {rk A : Int → Int} {n k x : Int} (H : UPo rk A n k x) (hk : 0 ≤ k ∧ k < n) (hc : k = 0 ∨ rk (A ((k - 1) / 2)) ≤ rk x) : HPo rk (sto A k x) n := by
  intro i i1 i2
  unfold sto
  by_cases h1 : i = k
  · rw [if_pos h1, if_neg (by omega)]
    rcases hc with hc | hc
    · omega
    · rw [h1]; exact hc
  · rw [if_neg h1]
    by_cases h2 : (i - 1) / 2 = k
    · rw [if_pos h2]; exact (H.2 i i1 i2 h2).1
    · rw [if_neg h2]; exact H.1 i i1 i2 h1 h2
/-- the hole at k with x on its way down -/
def DNo (rk A : Int → Int) (n k : Int) : Prop := (∀ i : Int, 1 ≤ i → i < n → i ≠ k → (i - 1) / 2 ≠ k → rk (A ((i - 1) / 2)) ≤ rk (A i)) ∧ (∀ i : Int, 1 ≤ i → i < n → (i - 1) / 2 = k → 1 ≤ k → rk (A ((k - 1) / 2)) ≤ rk (A i))
/-- c is the child of k with the least rank -/
theorem DNo.step {rk A : Int → Int} {n k c x : Int} (H : DNo rk A n k) (hk : 0 ≤ k) (hc : (c - 1) / 2 = k ∧ 1 ≤ c ∧ c < n) (hm : ∀ i : Int, 1 ≤ i → i < n → (i - 1) / 2 = k → rk (A c) ≤ rk (A i)) (hx : rk (A c) < rk x) (hu : 1 ≤ k → rk (A ((k - 1) / 2)) ≤ rk (A c)) : DNo rk (sto A k (A c)) n c ∧ (rk (sto A k (A c) ((c - 1) / 2)) ≤ rk x) := by
  refine ⟨⟨fun i i1 i2 i3 i4 => ?_, fun i i1 i2 i3 _ => ?_⟩, ?_⟩
  · unfold sto
    by_cases h1 : i = k
    · rw [if_pos h1, if_neg (by omega), h1]; exact hu (by omega)
    · rw [if_neg h1]
      by_cases h2 : (i - 1) / 2 = k
      · rw [if_pos h2]; exact hm i i1 i2 h2
      · rw [if_neg h2]; exact H.1 i i1 i2 h1 h2
  · unfold sto
    rw [if_pos hc.1, if_neg (by omega), ← i3]
    exact H.1 i i1 i2 (by omega) (by omega)
  · unfold sto
    rw [if_pos hc.1]; omega
theorem DNo.stop {rk A : Int → Int} {n k x : Int} (H : DNo rk A n k) (hk : 0 ≤ k) (hm : ∀ i : Int, 1 ≤ i → i < n → (i - 1) / 2 = k → rk x ≤ rk (A i)) (hu : 1 ≤ k → rk (A ((k - 1) / 2)) ≤ rk x) : HPo rk (sto A k x) n := by
  intro i i1 i2
  unfold sto
  by_cases h1 : i = k
  · rw [if_pos h1, if_neg (by omega), h1]; exact hu (by omega)
  · rw [if_neg h1]
    by_cases h2 : (i - 1) / 2 = k
    · rw [if_pos h2]; exact hm i i1 i2 h2
    · rw [if_neg h2]; exact H.1 i i1 i2 h1 h2
/-- one more, at the end -/
theorem PMo.add {A : Int → Int} {n x : Int} {S : Int → Prop} (H : PMo A n S) (hn : 0 ≤ n) (hx : ¬ S x) : PMo (sto A n x) (n + 1) (fun r => S r ∨ r = x) := by
  refine ⟨fun i j i0 i1 j0 j1 e => ?_, fun r => ?_⟩
  · unfold sto at e
    by_cases hi : i = n
    · by_cases hj : j = n
      · omega
      · rw [if_pos hi, if_neg hj] at e
        exact absurd ((H.2 x).mpr ⟨j, j0, by omega, e.symm⟩) hx
    · by_cases hj : j = n
      · rw [if_neg hi, if_pos hj] at e
        exact absurd ((H.2 x).mpr ⟨i, i0, by omega, e⟩) hx
      · rw [if_neg hi, if_neg hj] at e
        exact H.1 i j i0 (by omega) j0 (by omega) e
  · constructor
    · rintro (h | h)
      · obtain ⟨i, i0, i1, e⟩ := (H.2 r).mp h
        exact ⟨i, i0, by omega, by unfold sto; rw [if_neg (by omega)]; exact e⟩
      · exact ⟨n, hn, by omega, by unfold sto; rw [if_pos rfl]; exact h.symm⟩
    · rintro ⟨i, i0, i1, e⟩
      unfold sto at e
      by_cases hi : i = n
      · rw [if_pos hi] at e; exact Or.inr e.symm
      · rw [if_neg hi] at e; exact Or.inl ((H.2 r).mpr ⟨i, i0, by omega, e⟩)
/-- the first one taken out, the last one in its place -/
theorem PMo.rem {A : Int → Int} {n : Int} {S : Int → Prop} (H : PMo A (n + 1) S) (hn : 0 ≤ n) : PMo (sto A 0 (A n)) n (fun r => S r ∧ r ≠ A 0) := by
  refine ⟨fun i j i0 i1 j0 j1 e => ?_, fun r => ?_⟩
  · unfold sto at e
    by_cases hi : i = 0
    · by_cases hj : j = 0
      · omega
      · rw [if_pos hi, if_neg hj] at e
        have := H.1 n j hn (by omega) j0 (by omega) e
        omega
    · by_cases hj : j = 0
      · rw [if_neg hi, if_pos hj] at e
        have := H.1 i n i0 (by omega) hn (by omega) e
        omega
      · rw [if_neg hi, if_neg hj] at e
        exact H.1 i j i0 (by omega) j0 (by omega) e
  · constructor
    · rintro ⟨h, h2⟩
      obtain ⟨i, i0, i1, e⟩ := (H.2 r).mp h
      have hi : i ≠ 0 := fun z => h2 (by rw [← e, z])
      by_cases hi2 : i = n
      · exact ⟨0, by omega, by omega, by unfold sto; rw [if_pos rfl, ← hi2]; exact e⟩
      · exact ⟨i, i0, by omega, by unfold sto; rw [if_neg hi]; exact e⟩
    · rintro ⟨i, i0, i1, e⟩
      unfold sto at e
      by_cases hi : i = 0
      · rw [if_pos hi] at e
        refine ⟨(H.2 r).mpr ⟨n, hn, by omega, e⟩, fun z => ?_⟩
        have := H.1 n 0 hn (by omega) (by omega) (by omega) (e.trans z)
        omega
      · rw [if_neg hi] at e
        refine ⟨(H.2 r).mpr ⟨i, i0, by omega, e⟩, fun z => ?_⟩
        have := H.1 i 0 i0 (by omega) (by omega) (by omega) (e.trans z)
        omega
