/-! WHAT A LOOK OVER ALL ASSIGNMENTS FINDS, as a fold -/
set_option maxRecDepth 100000
/-- least, how many, second, greatest, narrowest, first -/
abbrev LKt : Type := Int × Int × Int × Int × Int × List Nat
def lk0 : LKt := (1000000, 0, 1000000, -1, 1000000, [])
def stp (C : Int → Int → Int) (p : LKt) (σ : List Nat) : LKt :=
  (if ps C 0 σ < p.1 then ps C 0 σ else p.1,
   if ps C 0 σ < p.1 then 1 else p.2.1 + (if ps C 0 σ = p.1 then 1 else 0),
   if ps C 0 σ < p.1 then p.1 else if ps C 0 σ < p.2.2.1 then ps C 0 σ else p.2.2.1,
   if ps C 0 σ < 1000 ∧ p.2.2.2.1 < ps C 0 σ then ps C 0 σ else p.2.2.2.1,
   if pd C 0 σ 0 < p.2.2.2.2.1 then pd C 0 σ 0 else p.2.2.2.2.1,
   if ps C 0 σ < p.1 then σ else p.2.2.2.2.2)
def lkF (C : Int → Int → Int) (l : List (List Nat)) : LKt := l.foldl (stp C) lk0
def seeW (σ : List Nat) (s : Int) (wf : Int → Int) (k : Int) : Int :=
  if (k / 7).toNat < σ.length ∧ ((σ.getD (k / 7).toNat 0 : Nat) : Int) = k % 7 ∧ s < wf k then s else wf k
def lwF (C : Int → Int → Int) (l : List (List Nat)) : Int → Int := l.foldl (fun wf σ => seeW σ (ps C 0 σ) wf) (fun _ => 1000000)
def bLK (p : LKt) : Prop := (0 ≤ p.1 ∧ p.1 ≤ 1000000) ∧ (0 ≤ p.2.1 ∧ p.2.1 ≤ 100000) ∧ (0 ≤ p.2.2.1 ∧ p.2.2.1 ≤ 1000000) ∧ (-1 ≤ p.2.2.2.1 ∧ p.2.2.2.1 ≤ 1000000) ∧ (0 ≤ p.2.2.2.2.1 ∧ p.2.2.2.2.1 ≤ 1000000)
/-- the model's cells hold what was found so far -/
def LSx (mo : Int) (p : LKt) (wf : Int → Int) (w : Wd) : Prop :=
  (rdw w mo 13 = p.1 ∧ rdw w mo 14 = p.2.1 ∧ rdw w mo 15 = p.2.2.1 ∧ rdw w mo 16 = p.2.2.2.1 ∧ rdw w mo 17 = p.2.2.2.2.1) ∧ PA w (mo + 8) p.2.2.2.2.2 ∧ ∀ k : Int, 0 ≤ k → k < 49 → rdw w (mo + 6) k = wf k
/-- the costs of a look: between 0 and 1000 -/
def bC (C : Int → Int → Int) (sz : Int) : Prop := ∀ i j : Int, 0 ≤ i → i < sz → 0 ≤ j → j < sz → 0 ≤ C i j ∧ C i j ≤ 1000
theorem ps_bnd {C : Int → Int → Int} {sz : Int} (h : bC C sz) : ∀ {σ : List Nat} {i : Int}, 0 ≤ i → i + σ.length ≤ sz → (∀ x ∈ σ, (x : Int) < sz) → 0 ≤ ps C i σ ∧ ps C i σ ≤ 1000 * σ.length := by
  intro σ
  induction σ with
  | nil => intro i _ _ _; simp [ps]
  | cons j l ih =>
    intro i h0 h1 h2
    simp only [List.length_cons] at h1
    have h3 := ih (i := i + 1) (by omega) (by omega) (fun x hx => h2 x (List.mem_cons_of_mem _ hx))
    have h4 := h i j h0 (by omega) (by omega) (h2 j List.mem_cons_self)
    simp only [ps, List.length_cons]
    omega
theorem pd_bnd {C : Int → Int → Int} {sz : Int} (h : bC C sz) : ∀ {σ : List Nat} {i a : Int}, 0 ≤ i → i + σ.length ≤ sz → (∀ x ∈ σ, (x : Int) < sz) → 0 ≤ a → a ≤ 1000 → 0 ≤ pd C i σ a ∧ pd C i σ a ≤ 1000 := by
  intro σ
  induction σ with
  | nil => intro i a _ _ _ h3 h4; exact ⟨h3, h4⟩
  | cons j l ih =>
    intro i a h0 h1 h2 h3 h4
    simp only [List.length_cons] at h1
    have h5 := h i j h0 (by omega) (by omega) (h2 j List.mem_cons_self)
    simp only [pd]
    refine ih (by omega) (by omega) (fun x hx => h2 x (List.mem_cons_of_mem _ hx)) ?_ ?_ <;> split <;> omega
theorem getD_mem {σ : List Nat} {k : Nat} (h : k < σ.length) : σ.getD k 0 ∈ σ := by
  rw [List.getD_eq_getElem?_getD, List.getElem?_eq_getElem h]
  exact List.getElem_mem h
/-- ahead of row i: rows before it are seen -/
def seeP (σ : List Nat) (s : Int) (wf : Int → Int) (i k : Int) : Int := if k < 7 * i then seeW σ s wf k else wf k
theorem seeP_step {σ : List Nat} {s i x : Int} {wf : Int → Int} {w : Wd} {mo : Int} (h0 : 0 ≤ i) (h1 : i < σ.length) (hx : x = (σ.getD i.toNat 0 : Nat)) (h7 : x < 7) (hw : ∀ k : Int, 0 ≤ k → k < 49 → rdw w (mo + 6) k = seeP σ s wf i k) {v : Int} (hv : v = if s < wf (7 * i + x) then s else wf (7 * i + x)) :
    ∀ k : Int, 0 ≤ k → k < 49 → rdw (upw w (mo + 6) (7 * i + x) v) (mo + 6) k = seeP σ s wf (i + 1) k := by
  intro k k0 k1
  have x0 : 0 ≤ x := by omega
  by_cases e : k = 7 * i + x
  · rw [rd_up_eq ⟨rfl, e⟩, hv, e]
    unfold seeP seeW
    rw [if_pos (show 7 * i + x < 7 * (i + 1) by omega), show (7 * i + x) / 7 = i by omega, show (7 * i + x) % 7 = x by omega]
    by_cases hs : s < wf (7 * i + x)
    · rw [if_pos hs, if_pos ⟨by omega, hx.symm, hs⟩]
    · rw [if_neg hs, if_neg (fun z => hs z.2.2)]
  · rw [rd_up_ne (fun z => e z.2), hw k k0 k1]
    unfold seeP
    by_cases hk : k < 7 * i
    · rw [if_pos hk, if_pos (by omega)]
    · rw [if_neg hk]
      by_cases hk2 : k < 7 * (i + 1)
      · rw [if_pos hk2]
        unfold seeW
        rw [if_neg (fun z => e ?_)]
        have h2 : k / 7 = i := by omega
        rw [h2] at z
        have h3 := z.2.1
        omega
      · rw [if_neg hk2]
theorem seeP_end {σ : List Nat} {s : Int} {wf : Int → Int} {k : Int} (h0 : 0 ≤ k) : seeP σ s wf σ.length k = seeW σ s wf k := by
  unfold seeP
  split
  · rfl
  · unfold seeW
    rw [if_neg (by omega)]
theorem PA.fr {P : Int → Int → Prop} {w w1 : Wd} {a : Int} {σ : List Nat} (h : PA w a σ) (hF : Fr P w w1) (hn : ∀ i, ¬ P a i) : PA w1 a σ := fun i h0 h1 => by rw [hF.rd _ _ (hn i)]; exact h i h0 h1
theorem PA.up {w : Wd} {a b i x : Int} {σ : List Nat} (h : PA w a σ) (hn : a ≠ b) : PA (upw w b i x) a σ := fun k h0 h1 => by rw [rd_up_ne (fun e => hn e.1)]; exact h k h0 h1
section LSXS
variable {mo a b c d e v i : Int} {fs : List Nat} {wf : Int → Int} {w : Wd}
theorem LSx.f13 (h : LSx mo (a, b, c, d, e, fs) wf w) : rdw w mo 13 = a := h.1.1
theorem LSx.f14 (h : LSx mo (a, b, c, d, e, fs) wf w) : rdw w mo 14 = b := h.1.2.1
theorem LSx.f15 (h : LSx mo (a, b, c, d, e, fs) wf w) : rdw w mo 15 = c := h.1.2.2.1
theorem LSx.f16 (h : LSx mo (a, b, c, d, e, fs) wf w) : rdw w mo 16 = d := h.1.2.2.2.1
theorem LSx.f17 (h : LSx mo (a, b, c, d, e, fs) wf w) : rdw w mo 17 = e := h.1.2.2.2.2
theorem LSx.p13 (h : LSx mo (a, b, c, d, e, fs) wf w) : LSx mo (v, b, c, d, e, fs) wf (upw w mo 13 v) :=
  ⟨⟨rd_up_eq ⟨rfl, rfl⟩, (rd_up_ne (by omega)).trans h.f14, (rd_up_ne (by omega)).trans h.f15, (rd_up_ne (by omega)).trans h.f16, (rd_up_ne (by omega)).trans h.f17⟩, h.2.1.up (by omega), fun k k0 k1 => (rd_up_ne (by omega)).trans (h.2.2 k k0 k1)⟩
theorem LSx.p14 (h : LSx mo (a, b, c, d, e, fs) wf w) : LSx mo (a, v, c, d, e, fs) wf (upw w mo 14 v) :=
  ⟨⟨(rd_up_ne (by omega)).trans h.f13, rd_up_eq ⟨rfl, rfl⟩, (rd_up_ne (by omega)).trans h.f15, (rd_up_ne (by omega)).trans h.f16, (rd_up_ne (by omega)).trans h.f17⟩, h.2.1.up (by omega), fun k k0 k1 => (rd_up_ne (by omega)).trans (h.2.2 k k0 k1)⟩
theorem LSx.p15 (h : LSx mo (a, b, c, d, e, fs) wf w) : LSx mo (a, b, v, d, e, fs) wf (upw w mo 15 v) :=
  ⟨⟨(rd_up_ne (by omega)).trans h.f13, (rd_up_ne (by omega)).trans h.f14, rd_up_eq ⟨rfl, rfl⟩, (rd_up_ne (by omega)).trans h.f16, (rd_up_ne (by omega)).trans h.f17⟩, h.2.1.up (by omega), fun k k0 k1 => (rd_up_ne (by omega)).trans (h.2.2 k k0 k1)⟩
theorem LSx.p16 (h : LSx mo (a, b, c, d, e, fs) wf w) : LSx mo (a, b, c, v, e, fs) wf (upw w mo 16 v) :=
  ⟨⟨(rd_up_ne (by omega)).trans h.f13, (rd_up_ne (by omega)).trans h.f14, (rd_up_ne (by omega)).trans h.f15, rd_up_eq ⟨rfl, rfl⟩, (rd_up_ne (by omega)).trans h.f17⟩, h.2.1.up (by omega), fun k k0 k1 => (rd_up_ne (by omega)).trans (h.2.2 k k0 k1)⟩
theorem LSx.p17 (h : LSx mo (a, b, c, d, e, fs) wf w) : LSx mo (a, b, c, d, v, fs) wf (upw w mo 17 v) :=
  ⟨⟨(rd_up_ne (by omega)).trans h.f13, (rd_up_ne (by omega)).trans h.f14, (rd_up_ne (by omega)).trans h.f15, (rd_up_ne (by omega)).trans h.f16, rd_up_eq ⟨rfl, rfl⟩⟩, h.2.1.up (by omega), fun k k0 k1 => (rd_up_ne (by omega)).trans (h.2.2 k k0 k1)⟩
theorem LSx.nil (h : LSx mo (a, b, c, d, e, fs) wf w) : LSx mo (a, b, c, d, e, []) wf w := ⟨h.1, fun i h0 h1 => absurd h1 (by simp; omega), h.2.2⟩
theorem LSx.p8 (h : LSx mo (a, b, c, d, e, []) wf w) : LSx mo (a, b, c, d, e, []) wf (upw w (mo + 8) i v) :=
  ⟨⟨(rd_up_ne (by omega)).trans h.f13, (rd_up_ne (by omega)).trans h.f14, (rd_up_ne (by omega)).trans h.f15, (rd_up_ne (by omega)).trans h.f16, (rd_up_ne (by omega)).trans h.f17⟩, fun i h0 h1 => absurd h1 (by simp; omega), fun k k0 k1 => (rd_up_ne (by omega)).trans (h.2.2 k k0 k1)⟩
theorem LSx.p6 (h : LSx mo (a, b, c, d, e, fs) wf w) {wg : Int → Int} (hg : ∀ k : Int, 0 ≤ k → k < 49 → rdw (upw w (mo + 6) i v) (mo + 6) k = wg k) : LSx mo (a, b, c, d, e, fs) wg (upw w (mo + 6) i v) :=
  ⟨⟨(rd_up_ne (by omega)).trans h.f13, (rd_up_ne (by omega)).trans h.f14, (rd_up_ne (by omega)).trans h.f15, (rd_up_ne (by omega)).trans h.f16, (rd_up_ne (by omega)).trans h.f17⟩, h.2.1.up (by omega), hg⟩
theorem LSx.fin (h : LSx mo (a, b, c, d, e, []) wf w) (hf : PA w (mo + 8) fs) : LSx mo (a, b, c, d, e, fs) wf w := ⟨h.1, hf, h.2.2⟩
theorem LSx.cg {wg : Int → Int} (h : LSx mo (a, b, c, d, e, fs) wf w) (hg : ∀ k : Int, 0 ≤ k → k < 49 → wf k = wg k) : LSx mo (a, b, c, d, e, fs) wg w := ⟨h.1, h.2.1, fun k k0 k1 => (h.2.2 k k0 k1).trans (hg k k0 k1)⟩
end LSXS
