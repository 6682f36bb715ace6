/-! THE PLAIN LAW, 8: the enumeration -/
set_option maxRecDepth 100000
set_option maxHeartbeats 4000000
theorem mk_app {π : List Nat} {j : Nat} : mk (π ++ [j]) = mk π ||| 1 <<< j := by
  unfold mk
  rw [List.foldl_append]
  rfl
theorem mk_bit : ∀ {π : List Nat}, (∀ x ∈ π, x < 7) → mk π < 128 ∧ ∀ j < 7, mk π >>> j % 2 = if j ∈ π then 1 else 0 := by
  intro π
  refine snocInd (P := fun π => (∀ x ∈ π, x < 7) → mk π < 128 ∧ ∀ j < 7, mk π >>> j % 2 = if j ∈ π then 1 else 0) ?_ ?_ π
  · intro _
    refine ⟨by decide, fun j hj => ?_⟩
    show 0 >>> j % 2 = _
    simp
  · intro l a ih h
    obtain ⟨h1, h2⟩ := ih (fun x hx => h x (List.mem_append_left _ hx))
    have ha := h a (List.mem_append_right _ List.mem_cons_self)
    rw [mk_app]
    refine ⟨b_or_lt _ h1 a ha, fun j hj => ?_⟩
    rw [b_bit _ h1 a ha j hj, h2 j hj]
    by_cases e : j = a
    · rw [if_pos e, if_pos (by rw [e]; exact List.mem_append_right _ List.mem_cons_self)]
    · rw [if_neg e]
      by_cases e2 : j ∈ l
      · rw [if_pos e2, if_pos (List.mem_append_left _ e2)]
      · rw [if_neg e2, if_neg (fun z => by
          rcases List.mem_append.mp z with y | y
          · exact e2 y
          · exact e (List.mem_singleton.mp y))]
theorem sm_up {f : Int → Int} {j : Nat} : ∀ {n : Nat}, j ≤ n → (∀ i : Int, 0 ≤ i → i < n → 0 ≤ f i) → sm' j f ≤ sm' n f
  | 0, h, _ => by rw [show j = 0 by omega]; exact Int.le_refl _
  | n + 1, h, h0 => by
    by_cases e : j = n + 1
    · rw [e]; exact Int.le_refl _
    · have h1 := sm_up (f := f) (j := j) (n := n) (by omega) (fun i i0 i1 => h0 i i0 (by omega))
      have h2 := h0 n (by omega) (by omega)
      show _ ≤ sm' n f + f n
      omega
/-- free columns -/
def unI (π : List Nat) (j : Int) : Int := if j.toNat ∈ π then 0 else 1
theorem unI_sum {n : Nat} : ∀ {π : List Nat}, π.Nodup → (∀ x ∈ π, x < n) → sm' n (unI π) = n - π.length := by
  intro π
  induction π with
  | nil =>
    intro _ _
    rw [sm_cg (g := fun _ => 1) (fun i _ _ => by simp [unI]), sm_k]
    simp
  | cons a l ih =>
    intro hn h
    have h1 := ih (List.nodup_cons.mp hn).2 (fun x hx => h x (List.mem_cons_of_mem _ hx))
    have ha := h a List.mem_cons_self
    have hal := (List.nodup_cons.mp hn).1
    have h2 := sm_one (f := unI l) (g := unI (a :: l)) (a := (a : Int)) (k := n) (by omega) (by omega) (fun i i0 i1 hi => by
      unfold unI
      by_cases e : i.toNat ∈ l
      · rw [if_pos e, if_pos (List.mem_cons_of_mem _ e)]
      · rw [if_neg e, if_neg (fun z => by
          rcases List.mem_cons.mp z with y | y
          · omega
          · exact e y)])
    have e1 : unI l (a : Int) = 1 := if_neg (by rw [Int.toNat_natCast]; exact hal)
    have e2 : unI (a :: l) (a : Int) = 0 := if_pos (by rw [Int.toNat_natCast]; exact List.mem_cons_self)
    rw [h2, e1, e2, h1, List.length_cons]
    omega
theorem ps_sn {C : Int → Int → Int} : ∀ {l : List Nat} {i : Int} {j : Nat}, ps C i (l ++ [j]) = ps C i l + C (i + l.length) j := by
  intro l
  induction l with
  | nil => intro i j; show C i j + 0 = 0 + C (i + 0) j; rw [Int.add_zero, Int.add_zero, Int.zero_add]
  | cons a l ih =>
    intro i j
    show C i a + ps C (i + 1) (l ++ [j]) = C i a + ps C (i + 1) l + C (i + ((l.length + 1 : Nat) : Int)) j
    rw [ih, show i + ((l.length + 1 : Nat) : Int) = i + 1 + l.length by omega]
    omega
theorem cd_inj : ∀ {l l' : List Nat} {a a' : Int}, l.length = l'.length → (∀ x ∈ l, x < 9) → (∀ x ∈ l', x < 9) → cd a l = cd a' l' → a = a' ∧ l = l' := by
  intro l
  induction l with
  | nil =>
    intro l' a a' h _ _ e
    cases l' with
    | nil => exact ⟨e, rfl⟩
    | cons b l' => cases h
  | cons x l ih =>
    intro l' a a' h h1 h2 e
    cases l' with
    | nil => cases h
    | cons y l' =>
      have hx := h1 x List.mem_cons_self
      have hy := h2 y List.mem_cons_self
      obtain ⟨e1, e2⟩ := ih (l' := l') (a := 10 * a + x + 1) (a' := 10 * a' + y + 1) (by simpa using h) (fun z hz => h1 z (List.mem_cons_of_mem _ hz)) (fun z hz => h2 z (List.mem_cons_of_mem _ hz)) e
      exact ⟨by omega, by rw [e2, show x = y by omega]⟩
theorem PP.det {w : Wd} {b r : Int} {n : Nat} {π π' : List Nat} (hn : n ≤ 7) (H : PP w b n r π) (H' : PP w b n r π') : π = π' := by
  obtain ⟨-, ⟨a1, a2, a3, a4⟩, -, a5, -⟩ := H
  obtain ⟨-, ⟨c1, c2, c3, c4⟩, -, c5, -⟩ := H'
  exact (cd_inj (by omega) (fun x hx => by have := a4 x hx; omega) (fun x hx => by have := c4 x hx; omega) (a5.symm.trans c5)).2
/-- a prefix goes on by one column -/
theorem pre_go {n : Nat} {π σ : List Nat} (hσ : σ ∈ pmN n) (hl : π.length < n) (h : π <+: σ) : ∃ j, j < n ∧ j ∉ π ∧ (π ++ [j]) <+: σ := by
  obtain ⟨t, ht⟩ := h
  have hm := pmN_mem.mp hσ
  cases t with
  | nil => rw [List.append_nil] at ht; rw [ht] at hl; omega
  | cons j t =>
    refine ⟨j, hm.2.2 j (by rw [← ht]; exact List.mem_append_right _ List.mem_cons_self), fun hj => ?_, ⟨t, by rw [← ht, List.append_assoc]; rfl⟩⟩
    have h1 := hm.2.1
    rw [← ht] at h1
    exact (List.nodup_append.mp h1).2.2 j hj j List.mem_cons_self rfl
theorem pre_back {π σ : List Nat} {j : Nat} (h : (π ++ [j]) <+: σ) : π <+: σ := List.IsPrefix.trans ⟨[j], rfl⟩ h
theorem pre_eq {π π' σ : List Nat} (h : π <+: σ) (h' : π' <+: σ) (hl : π.length = π'.length) : π = π' := by
  obtain ⟨t, ht⟩ := h
  obtain ⟨t', ht'⟩ := h'
  rw [← ht'] at ht
  exact (List.append_inj ht hl).1
theorem wtL_app {w : Wd} {n : Nat} {B : List Int} : ∀ {A : List Int}, wtL w n (A ++ B) = wtL w n A + wtL w n B
  | [] => by show wtL w n B = 0 + wtL w n B; omega
  | r :: A => by
    show wtN _ + wtL w n (A ++ B) = wtN _ + wtL w n A + wtL w n B
    rw [wtL_app (A := A)]
    omega
theorem wtL_er {w : Wd} {n : Nat} {p : Int} : ∀ {L : List Int}, p ∈ L → wtL w n L = wtL w n (L.erase p) + wtN (n - (rdw w p 1).toNat)
  | [], h => by cases h
  | r :: L, h => by
    by_cases e : r = p
    · rw [e, List.erase_cons_head]
      show wtN _ + wtL w n L = _
      omega
    · rw [List.erase_cons_tail (by simpa using e)]
      have := wtL_er (w := w) (n := n) (p := p) (L := L) (by
        rcases List.mem_cons.mp h with z | z
        · exact absurd z.symm e
        · exact z)
      show wtN _ + wtL w n L = wtN _ + wtL w n (L.erase p) + _
      omega
theorem wtL_all {w : Wd} {n k : Nat} : ∀ {A : List Int}, (∀ r ∈ A, rdw w r 1 = (k : Int)) → wtL w n A = A.length * wtN (n - k)
  | [], _ => by simp [wtL]
  | r :: A, h => by
    show wtN (n - (rdw w r 1).toNat) + wtL w n A = _
    rw [wtL_all (A := A) (fun x hx => h x (List.mem_cons_of_mem _ hx)), h r List.mem_cons_self, Int.toNat_natCast, List.length_cons, Nat.add_mul]
    omega
theorem wtL_ge {w : Wd} {n : Nat} : ∀ {L : List Int}, L.length ≤ wtL w n L
  | [] => Nat.le_refl _
  | r :: L => by
    have h1 := wtL_ge (w := w) (n := n) (L := L)
    have h2 : 1 ≤ wtN (n - (rdw w r 1).toNat) := by
      cases n - (rdw w r 1).toNat with
      | zero => exact Nat.le_refl _
      | succ k => show 1 ≤ 1 + (k + 1) * wtN k; omega
    show L.length + 1 ≤ wtN _ + wtL w n L
    omega
/-! which one is next -/
def Qlt (C : Int → Int → Int) (ls lp : Int) (l : List (List Nat)) (t : Nat) : Prop := ls < ps C 0 (l.getD t []) ∨ (ps C 0 (l.getD t []) = ls ∧ lp < t)
section NXS
variable {C : Int → Int → Int} {ls lp : Int} {l : List (List Nat)}
theorem nxP_val : ∀ k : Nat, (nxP C ls lp l k).1 = 1000000 ∨ ∃ t, t < k ∧ Qlt C ls lp l t ∧ (nxP C ls lp l k).1 = ps C 0 (l.getD t [])
  | 0 => Or.inl rfl
  | k + 1 => by
    unfold nxP
    split
    · rename_i h
      exact Or.inr ⟨k, by omega, h.1, rfl⟩
    · rcases nxP_val k with z | ⟨t, t1, t2, t3⟩
      · exact Or.inl z
      · exact Or.inr ⟨t, by omega, t2, t3⟩
theorem nxP_is {t0 : Nat} (hq : Qlt C ls lp l t0) (hb : ps C 0 (l.getD t0 []) < 1000000) : ∀ k : Nat, t0 < k → (∀ t, t < k → Qlt C ls lp l t → ps C 0 (l.getD t0 []) < ps C 0 (l.getD t []) ∨ (ps C 0 (l.getD t []) = ps C 0 (l.getD t0 []) ∧ t0 ≤ t)) → nxP C ls lp l k = (ps C 0 (l.getD t0 []), (t0 : Int), l.getD t0 [])
  | 0, h, _ => absurd h (Nat.not_lt_zero _)
  | k + 1, h, hm => by
    by_cases e : t0 = k
    · have h1 : ps C 0 (l.getD t0 []) < (nxP C ls lp l k).1 := by
        rcases nxP_val (C := C) (ls := ls) (lp := lp) (l := l) k with z | ⟨t, t1, t2, t3⟩
        · omega
        · have := hm t (by omega) t2
          rw [t3]
          omega
      unfold nxP
      rw [← e, if_pos ⟨hq, by rw [e] at h1 ⊢; exact h1⟩]
    · have ih := nxP_is hq hb k (by omega) (fun t ht => hm t (by omega))
      unfold nxP
      rw [ih]
      refine if_neg (fun z => ?_)
      have h1 : ps C 0 (l.getD k []) < ps C 0 (l.getD t0 []) := z.2
      have h2 := hm k (by omega) z.1
      omega
end NXS
theorem cP_one {p q : Nat → Bool} {t0 : Nat} : ∀ n : Nat, t0 < n → (∀ t, t < n → t ≠ t0 → q t = p t) → p t0 = false → q t0 = true → (List.range n).countP q = (List.range n).countP p + 1
  | 0, h, _, _, _ => absurd h (Nat.not_lt_zero _)
  | n + 1, h, h1, h2, h3 => by
    rw [List.range_succ, List.countP_append, List.countP_append]
    by_cases e : t0 = n
    · have e1 : (List.range n).countP q = (List.range n).countP p := List.countP_congr (fun t ht => by
        have := List.mem_range.mp ht
        rw [h1 t (by omega) (by omega)])
      rw [e1, ← e]
      simp [h2, h3]
    · have := cP_one n (by omega) (fun t ht => h1 t (by omega)) h2 h3
      rw [this]
      have e2 := h1 n (by omega) (fun z => e z.symm)
      simp [e2]
      omega
