/-! THE FOLD'S STEPS AND BOUNDS -/
set_option maxRecDepth 100000
theorem lkF_snoc {C : Int → Int → Int} {l : List (List Nat)} {σ : List Nat} : lkF C (l ++ [σ]) = stp C (lkF C l) σ := by
  unfold lkF; rw [List.foldl_append]; rfl
theorem lwF_snoc {C : Int → Int → Int} {l : List (List Nat)} {σ : List Nat} : lwF C (l ++ [σ]) = seeW σ (ps C 0 σ) (lwF C l) := by
  unfold lwF; rw [List.foldl_append]; rfl
theorem take_snoc {α : Type} {l : List α} {k : Nat} {a : α} (h : l[k]? = some a) : l.take (k + 1) = l.take k ++ [a] := by
  rw [List.take_succ, h]; rfl
def bL (k : Nat) (p : LKt) : Prop := (0 ≤ p.1 ∧ p.1 ≤ 1000000) ∧ (0 ≤ p.2.1 ∧ p.2.1 ≤ k) ∧ (0 ≤ p.2.2.1 ∧ p.2.2.1 ≤ 1000000) ∧ (-1 ≤ p.2.2.2.1 ∧ p.2.2.2.1 ≤ 1000000) ∧ (0 ≤ p.2.2.2.2.1 ∧ p.2.2.2.2.1 ≤ 1000000)
theorem bL_step {C : Int → Int → Int} {k : Nat} {p : LKt} {σ : List Nat} (h : bL k p) (h1 : 0 ≤ ps C 0 σ ∧ ps C 0 σ ≤ 7000) (h2 : 0 ≤ pd C 0 σ 0 ∧ pd C 0 σ 0 ≤ 1000) : bL (k + 1) (stp C p σ) := by
  obtain ⟨a, b, c, d, e, fs⟩ := p
  obtain ⟨g1, g2, g3, g4, g5⟩ := h
  simp only [] at g1 g2 g3 g4 g5
  unfold stp bL
  simp only []
  refine ⟨?_, ?_, ?_, ?_, ?_⟩
  · split <;> omega
  · split
    · omega
    · split <;> omega
  · split
    · omega
    · split <;> omega
  · split <;> omega
  · split <;> omega
theorem bL_take {C : Int → Int → Int} {l : List (List Nat)} (h : ∀ σ ∈ l, (0 ≤ ps C 0 σ ∧ ps C 0 σ ≤ 7000) ∧ (0 ≤ pd C 0 σ 0 ∧ pd C 0 σ 0 ≤ 1000)) : ∀ k, k ≤ l.length → bL k (lkF C (l.take k)) := by
  intro k
  induction k with
  | zero => intro _; simp [lkF, lk0, bL]
  | succ k ih =>
    intro hk
    have h1 := ih (by omega)
    have h2 : l[k]? = some l[k] := List.getElem?_eq_getElem (by omega)
    rw [take_snoc h2, lkF_snoc]
    have h3 := h _ (List.mem_of_getElem? h2)
    exact bL_step h1 h3.1 h3.2
theorem bW_take {C : Int → Int → Int} {l : List (List Nat)} (h : ∀ σ ∈ l, (0 ≤ ps C 0 σ ∧ ps C 0 σ ≤ 7000)) : ∀ k, k ≤ l.length → ∀ z : Int, 0 ≤ lwF C (l.take k) z ∧ lwF C (l.take k) z ≤ 1000000 := by
  intro k
  induction k with
  | zero => intro _ z; simp [lwF]
  | succ k ih =>
    intro hk z
    have h1 := ih (by omega) z
    have h2 : l[k]? = some l[k] := List.getElem?_eq_getElem (by omega)
    rw [take_snoc h2, lwF_snoc]
    have h3 := h _ (List.mem_of_getElem? h2)
    unfold seeW
    split <;> omega
theorem fc_le : ∀ n, n < 8 → fc n ≤ 5040 := by decide +kernel
theorem pm_bnd {C : Int → Int → Int} {n : Nat} (hn : n < 8) (hC : bC C n) : ∀ σ ∈ pmN n, (0 ≤ ps C 0 σ ∧ ps C 0 σ ≤ 7000) ∧ (0 ≤ pd C 0 σ 0 ∧ pd C 0 σ 0 ≤ 1000) := by
  intro σ hσ
  obtain ⟨h1, h2, h3⟩ := pmN_mem.mp hσ
  have h4 : ∀ x ∈ σ, (x : Int) < (n : Int) := fun x hx => by have := h3 x hx; omega
  have h5 := ps_bnd hC (σ := σ) (i := 0) (by omega) (by omega) h4
  exact ⟨by omega, pd_bnd hC (by omega) (by omega) h4 (by omega) (by omega)⟩
theorem cw_fr {P : Int → Int → Prop} {w w1 : Wd} {mo : Int} (h : Fr P w w1) (hn : ∀ k, ¬ P (mo + 5) k) : cw w1 mo = cw w mo := by
  funext i j
  unfold cw
  exact h.rd _ _ (hn _)
def zQ (mo a i : Int) : Prop := a = mo + 6 ∨ a = mo + 7 ∨ a = mo + 8 ∨ (a = mo ∧ 13 ≤ i ∧ i ≤ 17)
theorem PA.cg {w : Wd} {a : Int} {σ τ : List Nat} (h : PA w a σ) (hl : τ.length ≤ σ.length) (hg : ∀ k, k < τ.length → σ.getD k 0 = τ.getD k 0) : PA w a τ := fun i h0 h1 => by
  rw [← hg i.toNat (by omega)]
  exact h i h0 (by omega)
theorem range_getD {n k : Nat} (h : k < n) : (List.range n).getD k 0 = k := by
  rw [List.getD_eq_getElem?_getD, List.getElem?_range h]; rfl
