/-! THE PLAIN LAW, 5: one row more (shortest augmenting path, duals, flip) -/
set_option maxRecDepth 100000
set_option maxHeartbeats 4000000
def bD (C : Int → Int → Int) (sz : Int) : Prop := ∀ i j : Int, 0 ≤ i → i < sz → 0 ≤ j → j < sz → 0 ≤ C i j ∧ C i j ≤ 10000
theorem bC.bD {C : Int → Int → Int} {sz : Int} (h : bC C sz) : bD C sz := fun i j i0 i1 j0 j1 => by have := h i j i0 i1 j0 j1; omega
def ndI (ro : Int → Int) (j : Int) : Int := if ro j = -1 then 0 else 1
/-- k rows are matched, tightly, by duals that are feasible for them -/
def HUN (n k : Int) (C : Int → Int → Int) (u v co ro : Int → Int) : Prop :=
  (∀ i j : Int, 0 ≤ i → i < k → 0 ≤ j → j < n → 0 ≤ C i j - u i - v j) ∧
  (∀ j : Int, 0 ≤ j → j < n → (-(10000 * k) ≤ v j ∧ v j ≤ 0) ∧ (ro j = -1 → v j = 0)) ∧
  (∀ i : Int, 0 ≤ i → i < k → (0 ≤ co i ∧ co i < n) ∧ ro (co i) = i ∧ C i (co i) = u i + v (co i) ∧ 0 ≤ u i) ∧
  (∀ j : Int, 0 ≤ j → j < n → ro j = -1 ∨ (0 ≤ ro j ∧ ro j < k ∧ co (ro j) = j)) ∧
  sm' n.toNat (ndI ro) = k
section HUNS
variable {n k m x y c r : Int} {C : Int → Int → Int} {u v co ro U V co' ro' ro0 d fr st od d' fr' st' : Int → Int}
theorem HUN.free (H : HUN n k C u v co ro) (h : k < n) (h0 : 0 ≤ k) : ∃ j : Int, 0 ≤ j ∧ j < n ∧ ro j = -1 := by
  refine Classical.byContradiction (fun hx => ?_)
  have h1 : sm' n.toNat (ndI ro) = sm' n.toNat (fun _ => 1) := sm_cg (fun i i0 i1 => by
    show ndI ro i = 1
    unfold ndI
    rw [if_neg (fun z => hx ⟨i, i0, by omega, z⟩)])
  rw [H.2.2.2.2, sm_k] at h1
  omega
theorem HUN.ub (H : HUN n k C u v co ro) (hC : bD C n) (hk : k ≤ n) {i : Int} (i0 : 0 ≤ i) (i1 : i < k) : 0 ≤ u i ∧ u i ≤ 10000 + 10000 * k := by
  obtain ⟨h1, -, h3, h4⟩ := H.2.2.1 i i0 i1
  have h5 := (H.2.1 (co i) h1.1 h1.2).1
  have h6 := hC i (co i) i0 (by omega) h1.1 h1.2
  omega
theorem HUN.opt (H : HUN n n C u v co ro) (hn : 0 ≤ n) : OPT n.toNat C u v co ro := by
  obtain ⟨h1, h2, h3, h4, h5⟩ := H
  refine ⟨fun i j i0 i1 j0 j1 => h1 i j i0 (by omega) j0 (by omega), fun i i0 i1 => ?_, fun j j0 j1 => ?_⟩
  · have := h3 i i0 (by omega)
    exact ⟨⟨this.1.1, by omega⟩, this.2.1, by omega⟩
  · rcases h4 j j0 (by omega) with z | z
    · exfalso
      have h6 : sm' n.toNat (ndI ro) ≤ sm' n.toNat (fun i => if i = j then 0 else 1) := sm_mono (fun i _ _ => by
        unfold ndI
        (repeat' split) <;> first | omega | (rename_i a e; exact absurd (by rw [e]; exact z) a))
      have h7 := sm_one (f := fun _ => (1 : Int)) (g := fun i => if i = j then 0 else 1) (k := n.toNat) j0 (by omega) (fun i _ _ hi => if_neg hi)
      rw [sm_k] at h7
      simp only [if_true] at h7
      omega
    · exact ⟨⟨z.1, by omega⟩, z.2.2⟩
/-- Dijkstra over the columns: x was settled last, its row is not looked at yet -/
def DJ (n k : Int) (C : Int → Int → Int) (u v ro d fr st od : Int → Int) (m x : Int) : Prop :=
  ((0 ≤ x ∧ x < n) ∧ st x = 1 ∧ od x = m - 1) ∧
  (∀ j : Int, 0 ≤ j → j < n → (st j = 0 ∨ st j = 1) ∧ 0 ≤ d j ∧ (st j = 1 → d j ≤ d x ∧ 0 ≤ od j ∧ (j ≠ x → od j < od x ∧ 0 ≤ ro j)) ∧ (st j = 0 → d x ≤ d j)) ∧
  (∀ q : Int, 0 ≤ q → q < n → d q ≤ C k q - u k - v q) ∧
  (∀ j q : Int, 0 ≤ j → j < n → st j = 1 → j ≠ x → 0 ≤ q → q < n → d q ≤ d j + (C (ro j) q - u (ro j) - v q)) ∧
  (∀ q : Int, 0 ≤ q → q < n → (fr q = k ∧ d q = C k q - u k - v q) ∨ ∃ j : Int, (0 ≤ j ∧ j < n) ∧ st j = 1 ∧ j ≠ x ∧ fr q = ro j ∧ d q = d j + (C (ro j) q - u (ro j) - v q) ∧ (st q = 1 → od j < od q)) ∧
  sm' n.toNat st = m
/-- the row that is added -/
def RK (n k : Int) (C : Int → Int → Int) (u v : Int → Int) : Prop := (∀ j : Int, 0 ≤ j → j < n → 0 ≤ C k j - u k - v j) ∧ 0 ≤ u k ∧ u k ≤ 10000
theorem DJ.init (hR : RK n k C u v) (hx : 0 ≤ x ∧ x < n) (hd : ∀ q : Int, 0 ≤ q → q < n → d q = C k q - u k - v q) (hf : ∀ q : Int, 0 ≤ q → q < n → fr q = k) (hs : ∀ q : Int, 0 ≤ q → q < n → st q = if q = x then 1 else 0) (hm : ∀ j : Int, 0 ≤ j → j < n → d x ≤ d j) : DJ n k C u v ro d fr st (fun _ => 0) 1 x := by
  refine ⟨⟨hx, by rw [hs x hx.1 hx.2, if_pos rfl], rfl⟩, fun j j0 j1 => ?_, fun q q0 q1 => by rw [hd q q0 q1]; exact Int.le_refl _, fun j q j0 j1 h1 h2 => ?_, fun q q0 q1 => Or.inl ⟨hf q q0 q1, hd q q0 q1⟩, ?_⟩
  · have h1 := hs j j0 j1
    have h2 := hm j j0 j1
    have h3 := hR.1 j j0 j1
    have h4 := hd j j0 j1
    by_cases e : j = x
    · rw [if_pos e] at h1
      exact ⟨Or.inr h1, by omega, fun _ => ⟨by rw [e]; exact Int.le_refl _, Int.le_refl _, fun z => absurd e z⟩, fun _ => h2⟩
    · rw [if_neg e] at h1
      exact ⟨Or.inl h1, by omega, fun z => by omega, fun _ => h2⟩
  · rw [hs j j0 j1, if_neg h2] at h1; omega
  · have h7 := sm_one (f := fun _ => (0 : Int)) (g := st) (k := n.toNat) hx.1 (by omega) (fun i i0 i1 hi => by rw [hs i i0 (by omega), if_neg hi])
    rw [sm_k, hs x hx.1 hx.2, if_pos rfl] at h7
    omega
theorem DJ.mn (H : DJ n k C u v ro d fr st od m x) (hn : 0 ≤ n) : m ≤ n := by
  have h1 : sm' n.toNat st ≤ sm' n.toNat (fun _ => 1) := sm_mono (fun i i0 i1 => by have := (H.2.1 i i0 (by omega)).1; omega)
  rw [H.2.2.2.2.2, sm_k] at h1
  omega
theorem DJ.opn (H : DJ n k C u v ro d fr st od m x) (hH : HUN n k C u v co ro) (h : k < n) (h0 : 0 ≤ k) (hf : ro x ≠ -1) : ∃ j : Int, (0 ≤ j ∧ j < n) ∧ st j = 0 := by
  obtain ⟨j, j0, j1, e⟩ := hH.free h h0
  refine ⟨j, ⟨j0, j1⟩, ?_⟩
  have h1 := H.2.1 j j0 j1
  rcases h1.1 with z | z
  · exact z
  · have h2 := (h1.2.2.1 z).2.2 (fun e2 => hf (by rw [← e2]; exact e))
    omega
theorem DJ.step (H : DJ n k C u v ro d fr st od m x) (hH : HUN n k C u v co ro) (hf : 0 ≤ ro x ∧ ro x < k) (hy : (0 ≤ y ∧ y < n) ∧ st y = 0)
    (hd : ∀ q : Int, 0 ≤ q → q < n → d' q = if st q = 0 ∧ d x + (C (ro x) q - u (ro x) - v q) < d q then d x + (C (ro x) q - u (ro x) - v q) else d q)
    (hfr : ∀ q : Int, 0 ≤ q → q < n → fr' q = if st q = 0 ∧ d x + (C (ro x) q - u (ro x) - v q) < d q then ro x else fr q)
    (hs : ∀ q : Int, st' q = if q = y then 1 else st q) (hm : ∀ j : Int, 0 ≤ j → j < n → st j = 0 → d' y ≤ d' j) : DJ n k C u v ro d' fr' st' (fun j => if j = y then m else od j) (m + 1) y := by
  obtain ⟨⟨hx, sx, ox⟩, h2, h3, h4, h5, h6⟩ := H
  have hxy : x ≠ y := fun z => by rw [← z, sx] at hy; omega
  have hrc : ∀ q : Int, 0 ≤ q → q < n → 0 ≤ C (ro x) q - u (ro x) - v q := fun q q0 q1 => hH.1 (ro x) q hf.1 hf.2 q0 q1
  have d1 : ∀ q : Int, 0 ≤ q → q < n → st q = 1 → d' q = d q := fun q q0 q1 e => by rw [hd q q0 q1, if_neg (by omega)]
  have d0 : ∀ q : Int, 0 ≤ q → q < n → st q = 0 → d x ≤ d' q := fun q q0 q1 e => by
    have t1 := hd q q0 q1
    have t2 := hrc q q0 q1
    have t3 := (h2 q q0 q1).2.2.2 e
    split at t1 <;> omega
  have dle : ∀ q : Int, 0 ≤ q → q < n → d' q ≤ d q := fun q q0 q1 => by
    have t1 := hd q q0 q1
    split at t1 <;> omega
  have dl2 : ∀ q : Int, 0 ≤ q → q < n → d' q ≤ d x + (C (ro x) q - u (ro x) - v q) := fun q q0 q1 => by
    have t1 := hd q q0 q1
    have t2 := hrc q q0 q1
    have t3 := h2 q q0 q1
    rcases t3.1 with z | z
    · split at t1 <;> omega
    · have := t3.2.2.1 z
      rw [d1 q q0 q1 z]; omega
  have sdef : ∀ j : Int, j ≠ y → st' j = st j := fun j hj => by rw [hs j, if_neg hj]
  have sy : st' y = 1 := by rw [hs y, if_pos rfl]
  have hodx : ∀ j : Int, 0 ≤ j → j < n → st j = 1 → 0 ≤ od j ∧ od j ≤ m - 1 := fun j j0 j1 e => by
    have t1 := (h2 j j0 j1).2.2.1 e
    by_cases ex : j = x
    · rw [ex, ox]; exact ⟨by rw [← ex] at ox; omega, Int.le_refl _⟩
    · have := t1.2.2 ex; omega
  have dxy := d0 y hy.1.1 hy.1.2 hy.2
  have dx0 := (h2 x hx.1 hx.2).2.1
  refine ⟨⟨hy.1, sy, by show (if y = y then m else od y) = _; rw [if_pos rfl]; omega⟩, fun j j0 j1 => ?_, fun q q0 q1 => Int.le_trans (dle q q0 q1) (h3 q q0 q1), fun j q j0 j1 e1 e2 q0 q1 => ?_, fun q q0 q1 => ?_, ?_⟩
  · show _ ∧ _ ∧ (_ → _ ∧ 0 ≤ (if j = y then m else od j) ∧ (j ≠ y → (if j = y then m else od j) < (if y = y then m else od y) ∧ 0 ≤ ro j)) ∧ _
    rw [if_pos (rfl : y = y)]
    have t1 := h2 j j0 j1
    by_cases e : j = y
    · rw [e, sy, if_pos rfl]
      refine ⟨Or.inr rfl, by omega, fun _ => ⟨Int.le_refl _, ?_, fun z => absurd rfl z⟩, fun z => by omega⟩
      have := hodx x hx.1 hx.2 sx; omega
    · rw [sdef j e, if_neg e]
      rcases t1.1 with z | z
      · refine ⟨Or.inl z, by have := d0 j j0 j1 z; omega, fun z2 => by omega, fun _ => hm j j0 j1 z⟩
      · have t2 := t1.2.2.1 z
        have t3 := hodx j j0 j1 z
        refine ⟨Or.inr z, by rw [d1 j j0 j1 z]; exact t1.2.1, fun _ => ⟨by rw [d1 j j0 j1 z]; omega, t3.1, fun _ => ⟨by omega, ?_⟩⟩, fun z2 => by omega⟩
        by_cases ex : j = x
        · rw [ex]; exact hf.1
        · exact (t2.2.2 ex).2
  · rw [sdef j e2] at e1
    rw [d1 j j0 j1 e1]
    by_cases ex : j = x
    · rw [ex]; exact dl2 q q0 q1
    · exact Int.le_trans (dle q q0 q1) (h4 j q j0 j1 e1 ex q0 q1)
  · by_cases hc : st q = 0 ∧ d x + (C (ro x) q - u (ro x) - v q) < d q
    · refine Or.inr ⟨x, hx, by rw [sdef x hxy]; exact sx, hxy, by rw [hfr q q0 q1, if_pos hc], by rw [hd q q0 q1, if_pos hc, d1 x hx.1 hx.2 sx], fun z => ?_⟩
      have hq : q = y := Classical.byContradiction (fun z2 => by rw [sdef q z2] at z; omega)
      show (if x = y then m else od x) < (if q = y then m else od q)
      rw [if_neg hxy, if_pos hq]; omega
    · rw [hfr q q0 q1, if_neg hc, hd q q0 q1, if_neg hc]
      rcases h5 q q0 q1 with z | ⟨j, j1, j2, j3, j4, j5, j6⟩
      · exact Or.inl z
      · have hjy : j ≠ y := fun z => by rw [z] at j2; omega
        refine Or.inr ⟨j, j1, by rw [sdef j hjy]; exact j2, hjy, j4, by rw [d1 j j1.1 j1.2 j2]; exact j5, fun z => ?_⟩
        show (if j = y then m else od j) < (if q = y then m else od q)
        rw [if_neg hjy]
        have := hodx j j1.1 j1.2 j2
        by_cases hq : q = y
        · rw [if_pos hq]; omega
        · rw [if_neg hq]
          rw [sdef q hq] at z
          exact j6 z
  · have h7 := sm_one (f := st) (g := st') (k := n.toNat) hy.1.1 (by omega) (fun i i0 i1 hi => sdef i hi)
    omega
/-- the duals after the path is found -/
theorem DJ.dual (H : DJ n k C u v ro d fr st od m x) (hH : HUN n k C u v co ro) (hR : RK n k C u v) (hC : bD C n) (hk : 0 ≤ k ∧ k < n) (hf : ro x = -1)
    (hU : ∀ i : Int, 0 ≤ i → i < k → U i = if st (co i) = 1 ∧ co i ≠ x then u i + (d x - d (co i)) else u i) (hUk : U k = u k + d x)
    (hV : ∀ j : Int, 0 ≤ j → j < n → V j = if st j = 1 ∧ j ≠ x then v j + (d j - d x) else v j) :
    (∀ i j : Int, 0 ≤ i → i < k + 1 → 0 ≤ j → j < n → 0 ≤ C i j - U i - V j) ∧
    (∀ j : Int, 0 ≤ j → j < n → (-(10000 * (k + 1)) ≤ V j ∧ V j ≤ 0) ∧ (ro j = -1 → V j = 0)) ∧
    (∀ i : Int, 0 ≤ i → i < k + 1 → 0 ≤ U i) ∧ (∀ i : Int, 0 ≤ i → i < k → C i (co i) = U i + V (co i)) ∧
    (∀ q : Int, 0 ≤ q → q < n → st q = 1 → (fr q = k ∧ C k q = U k + V q) ∨ ∃ j : Int, (0 ≤ j ∧ j < n) ∧ st j = 1 ∧ j ≠ x ∧ fr q = ro j ∧ (0 ≤ ro j ∧ ro j < k) ∧ od j < od q ∧ C (ro j) q = U (ro j) + V q) := by
  obtain ⟨⟨hx, sx, ox⟩, h2, h3, h4, h5, h6⟩ := H
  have hdx : d x ≤ 10000 := by
    have t1 := h3 x hx.1 hx.2
    have t2 := (hH.2.1 x hx.1 hx.2).2 hf
    have t3 := hC k x hk.1 hk.2 hx.1 hx.2
    have t4 := hR.2
    omega
  have hro : ∀ j : Int, 0 ≤ j → j < n → st j = 1 → j ≠ x → (0 ≤ ro j ∧ ro j < k) ∧ co (ro j) = j := fun j j0 j1 e1 e2 => by
    have t1 := ((h2 j j0 j1).2.2.1 e1).2.2 e2
    rcases hH.2.2.2.1 j j0 j1 with z | z
    · omega
    · exact ⟨⟨z.1, z.2.1⟩, z.2.2⟩
  have hUro : ∀ j : Int, 0 ≤ j → j < n → st j = 1 → j ≠ x → U (ro j) = u (ro j) + (d x - d j) := fun j j0 j1 e1 e2 => by
    have t := hro j j0 j1 e1 e2
    rw [hU (ro j) t.1.1 t.1.2, t.2, if_pos ⟨e1, e2⟩]
  have hVs : ∀ j : Int, 0 ≤ j → j < n → st j = 1 → V j = v j + (d j - d x) := fun j j0 j1 e1 => by
    by_cases e2 : j = x
    · rw [hV j j0 j1, if_neg (fun z => z.2 e2), e2]; omega
    · rw [hV j j0 j1, if_pos ⟨e1, e2⟩]
  have hVn : ∀ j : Int, 0 ≤ j → j < n → st j = 0 → V j = v j := fun j j0 j1 e1 => by rw [hV j j0 j1, if_neg (by omega)]
  refine ⟨fun i j i0 i1 j0 j1 => ?_, fun j j0 j1 => ?_, fun i i0 i1 => ?_, fun i i0 i1 => ?_, fun q q0 q1 e => ?_⟩
  · have t1 := h2 j j0 j1
    by_cases ek : i = k
    · rw [ek, hUk]
      have t2 := h3 j j0 j1
      rcases t1.1 with z | z
      · rw [hVn j j0 j1 z]
        have := t1.2.2.2 z; omega
      · rw [hVs j j0 j1 z]; omega
    · have t3 := hH.1 i j i0 (by omega) j0 j1
      obtain ⟨c0, c1, c2, c3⟩ := hH.2.2.1 i i0 (by omega)
      by_cases ec : st (co i) = 1 ∧ co i ≠ x
      · rw [hU i i0 (by omega), if_pos ec]
        have t4 := h4 (co i) j c0.1 c0.2 ec.1 ec.2 j0 j1
        rw [c1] at t4
        rcases t1.1 with z | z
        · rw [hVn j j0 j1 z]
          have := t1.2.2.2 z; omega
        · rw [hVs j j0 j1 z]; omega
      · rw [hU i i0 (by omega), if_neg ec]
        rcases t1.1 with z | z
        · rw [hVn j j0 j1 z]; omega
        · rw [hVs j j0 j1 z]
          have := (t1.2.2.1 z).1; omega
  · have t1 := h2 j j0 j1
    obtain ⟨t2, t3⟩ := hH.2.1 j j0 j1
    rcases t1.1 with z | z
    · rw [hVn j j0 j1 z]; exact ⟨⟨by omega, t2.2⟩, t3⟩
    · rw [hVs j j0 j1 z]
      have t4 := t1.2.2.1 z
      refine ⟨⟨by omega, by omega⟩, fun e => ?_⟩
      have t5 := t3 e
      by_cases ex : j = x
      · rw [ex] at t5 ⊢; omega
      · have := (t4.2.2 ex).2; omega
  · by_cases ek : i = k
    · rw [ek, hUk]
      have := hR.2.1
      have := (h2 x hx.1 hx.2).2.1
      omega
    · obtain ⟨c0, c1, c2, c3⟩ := hH.2.2.1 i i0 (by omega)
      rw [hU i i0 (by omega)]
      split
      · rename_i z
        have := ((h2 (co i) c0.1 c0.2).2.2.1 z.1).1
        omega
      · exact c3
  · obtain ⟨c0, c1, c2, c3⟩ := hH.2.2.1 i i0 i1
    rw [hU i i0 i1, hV (co i) c0.1 c0.2]
    split <;> omega
  · rw [hVs q q0 q1 e]
    rcases h5 q q0 q1 with z | ⟨j, j1, j2, j3, j4, j5, j6⟩
    · exact Or.inl ⟨z.1, by rw [hUk]; omega⟩
    · exact Or.inr ⟨j, j1, j2, j3, j4, (hro j j1.1 j1.2 j2 j3).1, j6 e, by rw [hUro j j1.1 j1.2 j2 j3]; omega⟩
/-- the path half turned: column c has lost its row -/
def FLP (n k : Int) (C : Int → Int → Int) (U V ro0 st od : Int → Int) (x : Int) (co ro : Int → Int) (c : Int) : Prop :=
  ((0 ≤ c ∧ c < n) ∧ st c = 1 ∧ 0 ≤ od c) ∧
  (∀ i : Int, 0 ≤ i → i < k → (0 ≤ co i ∧ co i < n) ∧ co i ≠ c ∧ ro (co i) = i ∧ C i (co i) = U i + V (co i)) ∧
  (∀ j : Int, 0 ≤ j → j < n → j ≠ c → ro j = -1 ∨ (0 ≤ ro j ∧ ro j < k ∧ co (ro j) = j)) ∧
  (∀ j : Int, 0 ≤ j → j < n → st j = 1 → j ≠ x → od j < od c → co (ro0 j) = j) ∧
  (∀ j : Int, 0 ≤ j → j < n → j ≠ x → (ro j = -1 ↔ ro0 j = -1)) ∧ (c ≠ x → ro x ≠ -1)
theorem FLP.init (H : DJ n k C u v ro d fr st od m x) (hH : HUN n k C u v co ro) (hf : ro x = -1) (hT : ∀ i : Int, 0 ≤ i → i < k → C i (co i) = U i + V (co i)) : FLP n k C U V ro st od x co ro x := by
  have hx := H.1.1
  have h1 := H.2.1 x hx.1 hx.2
  refine ⟨⟨hx, H.1.2.1, (h1.2.2.1 H.1.2.1).2.1⟩, fun i i0 i1 => ?_, fun j j0 j1 _ => hH.2.2.2.1 j j0 j1, fun j j0 j1 e1 e2 _ => ?_, fun j _ _ _ => Iff.rfl, fun z => absurd rfl z⟩
  · obtain ⟨c0, c1, -, -⟩ := hH.2.2.1 i i0 i1
    exact ⟨c0, fun z => by rw [z] at c1; omega, c1, hT i i0 i1⟩
  · have t1 := ((H.2.1 j j0 j1).2.2.1 e1).2.2 e2
    rcases hH.2.2.2.1 j j0 j1 with z | z
    · omega
    · exact z.2.2
theorem FLP.step {j : Int} (H : FLP n k C U V ro0 st od x co ro c) (hro : c ≠ x → ro0 c ≠ -1) (hj : (0 ≤ j ∧ j < n) ∧ st j = 1 ∧ j ≠ x ∧ r = ro0 j ∧ (0 ≤ r ∧ r < k) ∧ od j < od c ∧ C r c = U r + V c) (hoj : 0 ≤ od j)
    (hco : ∀ q : Int, co' q = if q = r then c else co q) (hr : ∀ q : Int, ro' q = if q = c then r else ro q) : co r = j ∧ FLP n k C U V ro0 st od x co' ro' j := by
  obtain ⟨⟨hc, sc, oc⟩, h1, h2, h3, h4, h5⟩ := H
  obtain ⟨j1, j2, j3, j4, j5, j6, j7⟩ := hj
  have hcr : co r = j := by rw [j4]; exact h3 j j1.1 j1.2 j2 j3 j6
  have hjc : j ≠ c := fun z => by rw [z] at j6; omega
  refine ⟨hcr, ⟨j1, j2, hoj⟩, fun i i0 i1 => ?_, fun q q0 q1 qj => ?_, fun q q0 q1 e1 e2 e3 => ?_, fun q q0 q1 e => ?_, fun _ => ?_⟩
  · obtain ⟨t1, t2, t3, t4⟩ := h1 i i0 i1
    by_cases e : i = r
    · rw [hco i, if_pos e, hr c, if_pos rfl]
      exact ⟨hc, fun z => hjc z.symm, e.symm, by rw [e]; exact j7⟩
    · rw [hco i, if_neg e, hr (co i), if_neg t2]
      refine ⟨t1, fun z => e ?_, t3, t4⟩
      have := (h1 r j5.1 j5.2).2.2.1
      rw [hcr, ← z, t3] at this
      exact this
  · by_cases e : q = c
    · rw [hr q, if_pos e]
      exact Or.inr ⟨j5.1, j5.2, by rw [hco r, if_pos rfl]; exact e.symm⟩
    · rw [hr q, if_neg e]
      rcases h2 q q0 q1 e with z | z
      · exact Or.inl z
      · refine Or.inr ⟨z.1, z.2.1, ?_⟩
        rw [hco (ro q), if_neg (fun e2 => qj (by rw [← z.2.2, e2]; exact hcr))]
        exact z.2.2
  · have t1 := h3 q q0 q1 e1 e2 (by omega)
    rw [hco (ro0 q), if_neg (fun e4 => by rw [e4, hcr] at t1; rw [t1] at e3; omega)]
    exact t1
  · by_cases ec : q = c
    · rw [hr q, if_pos ec]
      have := hro (fun z => e (ec.trans z))
      rw [ec]
      exact ⟨fun z => by omega, fun z => absurd z this⟩
    · rw [hr q, if_neg ec]
      exact h4 q q0 q1 e
  · by_cases ec : x = c
    · rw [hr x, if_pos ec]; omega
    · rw [hr x, if_neg ec]; exact h5 (fun z => ec z.symm)
theorem FLP.fin (H : FLP n k C U V ro0 st od x co ro c) (hro : c ≠ x → ro0 c ≠ -1) (hx : 0 ≤ x ∧ x < n) (hk : 0 ≤ k ∧ k < n) (hs : sm' n.toNat (ndI ro0) = k) (hx0 : ro0 x = -1)
    (d1 : ∀ i j : Int, 0 ≤ i → i < k + 1 → 0 ≤ j → j < n → 0 ≤ C i j - U i - V j)
    (d2 : ∀ j : Int, 0 ≤ j → j < n → (-(10000 * (k + 1)) ≤ V j ∧ V j ≤ 0) ∧ (ro0 j = -1 → V j = 0))
    (d3 : ∀ i : Int, 0 ≤ i → i < k + 1 → 0 ≤ U i) (hT : C k c = U k + V c)
    (hco : ∀ q : Int, co' q = if q = k then c else co q) (hr : ∀ q : Int, ro' q = if q = c then k else ro q) : HUN n (k + 1) C U V co' ro' := by
  obtain ⟨⟨hc, sc, oc⟩, h1, h2, h3, h4, h5⟩ := H
  have hrx : ro' x ≠ -1 := by
    by_cases ec : x = c
    · rw [hr x, if_pos ec]; omega
    · rw [hr x, if_neg ec]; exact h5 (fun z => ec z.symm)
  have hrn : ∀ q : Int, 0 ≤ q → q < n → q ≠ x → (ro' q = -1 → ro0 q = -1) := fun q q0 q1 e z => by
    by_cases ec : q = c
    · rw [hr q, if_pos ec] at z; omega
    · rw [hr q, if_neg ec] at z; exact (h4 q q0 q1 e).mp z
  refine ⟨d1, fun j j0 j1 => ⟨(d2 j j0 j1).1, fun z => (d2 j j0 j1).2 (hrn j j0 j1 (fun e => hrx (by rw [← e]; exact z)) z)⟩, fun i i0 i1 => ?_, fun j j0 j1 => ?_, ?_⟩
  · by_cases e : i = k
    · rw [hco i, if_pos e, hr c, if_pos rfl]
      exact ⟨hc, e.symm, by rw [e]; exact hT, d3 i i0 i1⟩
    · obtain ⟨t1, t2, t3, t4⟩ := h1 i i0 (by omega)
      rw [hco i, if_neg e, hr (co i), if_neg t2]
      exact ⟨t1, t3, t4, d3 i i0 i1⟩
  · by_cases e : j = c
    · rw [hr j, if_pos e]
      exact Or.inr ⟨hk.1, by omega, by rw [hco k, if_pos rfl]; exact e.symm⟩
    · rw [hr j, if_neg e]
      rcases h2 j j0 j1 e with z | z
      · exact Or.inl z
      · exact Or.inr ⟨z.1, by omega, by rw [hco (ro j), if_neg (by omega)]; exact z.2.2⟩
  · have h7 := sm_one (f := ndI ro0) (g := ndI ro') (k := n.toNat) hx.1 (by omega) (fun i i0 i1 hi => by
      unfold ndI
      by_cases z : ro0 i = -1
      · rw [if_pos z]
        by_cases ec : i = c
        · exfalso
          exact hro (fun y => hi (ec.trans y)) (by rw [← ec]; exact z)
        · rw [hr i, if_neg ec, if_pos ((h4 i i0 (by omega) hi).mpr z)]
      · rw [if_neg z, if_neg (fun y => z (hrn i i0 (by omega) hi y))])
    have e1 : ndI ro' x = 1 := if_neg hrx
    have e2 : ndI ro0 x = 0 := if_pos hx0
    omega
end HUNS
