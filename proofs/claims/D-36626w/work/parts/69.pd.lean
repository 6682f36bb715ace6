/-! THE PLAIN LAW, 6: shortest paths from the row of column 0 to all rows -/
set_option maxRecDepth 100000
set_option maxHeartbeats 4000000
/-- K rows are settled and looked at, the last at distance D -/
def PDJ (n : Int) (C : Int → Int → Int) (u v co ro d st od : Int → Int) (K D : Int) : Prop :=
  d (ro 0) = 0 ∧
  (∀ i : Int, 0 ≤ i → i < n → (st i = 0 ∨ st i = 1) ∧ (0 ≤ d i ∧ d i ≤ 1048576) ∧ (st i = 1 → d i ≤ D ∧ d i < 1048576 ∧ 0 ≤ od i ∧ od i < K) ∧ (st i = 0 → D ≤ d i)) ∧
  (∀ p j : Int, 0 ≤ p → p < n → st p = 1 → 1 ≤ j → j < n → d (ro j) ≤ d p + (C p j - u p - v j)) ∧
  (∀ i : Int, 0 ≤ i → i < n → i ≠ ro 0 → d i < 1048576 → ∃ p : Int, (0 ≤ p ∧ p < n) ∧ st p = 1 ∧ d i = d p + (C p (co i) - u p - v (co i)) ∧ (st i = 1 → od p < od i)) ∧
  sm' n.toNat st = K ∧ (1 ≤ K → st (ro 0) = 1) ∧ (K = 0 → ∀ i : Int, 0 ≤ i → i < n → st i = 0 ∧ (i ≠ ro 0 → d i = 1048576))
section PDS
variable {n K D q : Int} {C : Int → Int → Int} {u v co ro d st od d' st' : Int → Int}
theorem PDJ.init (hr : 0 ≤ ro 0 ∧ ro 0 < n) (h0 : ∀ i : Int, 0 ≤ i → i < n → st i = 0 ∧ d i = if i = ro 0 then 0 else 1048576) : PDJ n C u v co ro d st (fun _ => 0) 0 0 := by
  refine ⟨by rw [(h0 _ hr.1 hr.2).2, if_pos rfl], fun i i0 i1 => ?_, fun p j p0 p1 e => ?_, fun i i0 i1 hi hd => ?_, ?_, fun z => by omega, fun _ i i0 i1 => ⟨(h0 i i0 i1).1, fun hi => by rw [(h0 i i0 i1).2, if_neg hi]⟩⟩
  · obtain ⟨e1, e2⟩ := h0 i i0 i1
    refine ⟨Or.inl e1, ?_, fun z => by omega, fun _ => ?_⟩
    · split at e2 <;> omega
    · split at e2 <;> omega
  · have := (h0 p p0 p1).1; omega
  · have e2 := (h0 i i0 i1).2
    rw [if_neg hi] at e2; omega
  · rw [sm_cg (g := fun _ => 0) (fun i i0 i1 => (h0 i i0 (by omega)).1), sm_k]; omega
theorem PDJ.lt (H : PDJ n C u v co ro d st od K D) (h0 : 0 ≤ n) (hK : K < n) : ∃ i : Int, (0 ≤ i ∧ i < n) ∧ st i = 0 := by
  refine Classical.byContradiction (fun hx => ?_)
  have h1 : sm' n.toNat st = sm' n.toNat (fun _ => 1) := sm_cg (fun i i0 i1 => by
    rcases (H.2.1 i i0 (by omega)).1 with z | z
    · exact absurd ⟨i, ⟨i0, by omega⟩, z⟩ hx
    · exact z)
  rw [H.2.2.2.2.1, sm_k] at h1
  omega
theorem PDJ.bd (H : PDJ n C u v co ro d st od K D) (hO : OPT n.toNat C u v co ro) (hn : 1 ≤ n) (hK : 1 ≤ K) (he : ∀ i j : Int, 0 ≤ i → i < n → 0 ≤ j → j < n → C i j - u i - v j ≤ 80000) {i : Int} (i0 : 0 ≤ i) (i1 : i < n) : d i ≤ 80000 := by
  have h0 := (hO.2.2 0 (by omega) (by omega)).1
  by_cases e : i = ro 0
  · rw [e, H.1]; omega
  · obtain ⟨c1, c2, -⟩ := hO.2.1 i i0 (by omega)
    have hc : co i ≠ 0 := fun z => e (by rw [← c2, z])
    have h1 := H.2.2.1 (ro 0) (co i) h0.1 (by omega) (H.2.2.2.2.2.1 hK) (by omega) (by omega)
    rw [c2, H.1] at h1
    have := he (ro 0) (co i) h0.1 (by omega) c1.1 (by omega)
    omega
theorem PDJ.opn (H : PDJ n C u v co ro d st od K D) (hO : OPT n.toNat C u v co ro) (hn : 1 ≤ n) (hK : 0 ≤ K ∧ K < n) (he : ∀ i j : Int, 0 ≤ i → i < n → 0 ≤ j → j < n → C i j - u i - v j ≤ 80000) : ∃ i : Int, 0 ≤ i ∧ i < n ∧ st i = 0 ∧ d i < 1048576 := by
  by_cases hz : K = 0
  · have h0 := (hO.2.2 0 (by omega) (by omega)).1
    exact ⟨ro 0, h0.1, by omega, (H.2.2.2.2.2.2 hz _ h0.1 (by omega)).1, by rw [H.1]; omega⟩
  · obtain ⟨i, i1, i2⟩ := H.lt (by omega) hK.2
    have := H.bd hO hn (by omega) he i1.1 i1.2
    exact ⟨i, i1.1, i1.2, i2, by omega⟩
theorem PDJ.q0 (H : PDJ n C u v co ro d st od K D) (hr : 0 ≤ ro 0 ∧ ro 0 < n) (hz : K = 0) (hq : 0 ≤ q ∧ q < n) (hm : ∀ i : Int, 0 ≤ i → i < n → st i = 0 → d q ≤ d i) : q = ro 0 := by
  have h1 := H.2.2.2.2.2.2 hz
  have h2 := hm (ro 0) hr.1 hr.2 (h1 _ hr.1 hr.2).1
  rw [H.1] at h2
  exact Classical.byContradiction (fun z => by have := (h1 q hq.1 hq.2).2 z; omega)
theorem PDJ.step (H : PDJ n C u v co ro d st od K D) (hO : OPT n.toNat C u v co ro) (hn : 1 ≤ n) (hK : 0 ≤ K) (hq : (0 ≤ q ∧ q < n) ∧ st q = 0 ∧ d q < 1048576) (hm : ∀ i : Int, 0 ≤ i → i < n → st i = 0 → d q ≤ d i)
    (hs : ∀ i : Int, st' i = if i = q then 1 else st i)
    (hd : ∀ i : Int, 0 ≤ i → i < n → d' i = if st' i = 0 ∧ 1 ≤ co i ∧ d q + (C q (co i) - u q - v (co i)) < d i then d q + (C q (co i) - u q - v (co i)) else d i) :
    PDJ n C u v co ro d' st' (fun i => if i = q then K else od i) (K + 1) (d q) := by
  have hr := (hO.2.2 0 (by omega) (by omega))
  have en : ((n.toNat : Nat) : Int) = n := by omega
  rw [en] at hr
  have hq0 := H.q0 (q := q) hr.1
  obtain ⟨h1, h2, h3, h4, h5, h6, h7⟩ := H
  obtain ⟨hqb, sq, dq⟩ := hq
  have sdef : ∀ i : Int, i ≠ q → st' i = st i := fun i hi => by rw [hs i, if_neg hi]
  have sqq : st' q = 1 := by rw [hs q, if_pos rfl]
  have he : ∀ j : Int, 0 ≤ j → j < n → 0 ≤ C q j - u q - v j := fun j j0 j1 => hO.1 q j hqb.1 (by omega) j0 (by omega)
  have hco : ∀ i : Int, 0 ≤ i → i < n → 0 ≤ co i ∧ co i < n := fun i i0 i1 => by have := (hO.2.1 i i0 (by omega)).1; omega
  have d1 : ∀ i : Int, 0 ≤ i → i < n → st' i = 1 → d' i = d i := fun i i0 i1 e => by rw [hd i i0 i1, if_neg (by omega)]
  have dle : ∀ i : Int, 0 ≤ i → i < n → d' i ≤ d i := fun i i0 i1 => by
    have t := hd i i0 i1
    split at t <;> omega
  have Dq := (h2 q hqb.1 hqb.2).2.2.2 sq
  have ss : ∀ i : Int, st i = 1 → i ≠ q := fun i e z => by rw [z, sq] at e; omega
  refine ⟨?_, fun i i0 i1 => ?_, fun p j p0 p1 e j0 j1 => ?_, fun i i0 i1 hi hdi => ?_, ?_, fun _ => ?_, fun z => by omega⟩
  · rw [hd _ hr.1.1 hr.1.2, if_neg (by omega)]; exact h1
  · obtain ⟨t1, t2, t3, t4⟩ := h2 i i0 i1
    show _ ∧ _ ∧ (_ → _ ∧ _ ∧ 0 ≤ (if i = q then K else od i) ∧ (if i = q then K else od i) < K + 1) ∧ _
    by_cases e : i = q
    · rw [e, sqq, if_pos rfl, d1 q hqb.1 hqb.2 sqq]
      exact ⟨Or.inr rfl, ⟨by rw [← e]; exact t2.1, by omega⟩, fun _ => ⟨Int.le_refl _, dq, hK, by omega⟩, fun z => by omega⟩
    · rw [sdef i e, if_neg e]
      have t := hd i i0 i1
      rw [sdef i e] at t
      have c1 := hco i i0 i1
      have e1 := he (co i) c1.1 c1.2
      have dq0 := (h2 q hqb.1 hqb.2).2.1
      rcases t1 with z | z
      · have m1 := hm i i0 i1 z
        refine ⟨Or.inl z, ?_, fun y => by omega, fun _ => ?_⟩
        · split at t <;> omega
        · split at t <;> omega
      · have t5 := t3 z
        rw [if_neg (by omega)] at t
        rw [t]
        exact ⟨Or.inr z, t2, fun _ => ⟨by omega, t5.2.1, t5.2.2.1, by omega⟩, fun y => by omega⟩
  · have rj := hO.2.2 j (by omega) (by omega)
    rw [en] at rj
    by_cases ep : p = q
    · rw [ep, d1 q hqb.1 hqb.2 sqq]
      have t := hd (ro j) rj.1.1 rj.1.2
      rw [rj.2] at t
      have e1 := he j (by omega) j1
      have t2 := (h2 (ro j) rj.1.1 rj.1.2)
      by_cases z : st' (ro j) = 0
      · split at t <;> omega
      · rw [if_neg (fun y => z y.1)] at t
        rw [t]
        by_cases y : ro j = q
        · rw [y]; omega
        · rw [sdef _ y] at z
          have := t2.2.2.1 (by omega)
          omega
    · rw [sdef p ep] at e
      rw [d1 p p0 p1 (by rw [sdef p ep]; exact e)]
      exact Int.le_trans (dle _ rj.1.1 rj.1.2) (h3 p j p0 p1 e j0 j1)
  · by_cases hc : st' i = 0 ∧ 1 ≤ co i ∧ d q + (C q (co i) - u q - v (co i)) < d i
    · exact ⟨q, hqb, sqq, by rw [hd i i0 i1, if_pos hc, d1 q hqb.1 hqb.2 sqq], fun z => by omega⟩
    · have t := hd i i0 i1
      rw [if_neg hc] at t
      rw [t] at hdi ⊢
      obtain ⟨p, p1, p2, p3, p4⟩ := h4 i i0 i1 hi hdi
      have pq := ss p p2
      refine ⟨p, p1, by rw [sdef p pq]; exact p2, by rw [d1 p p1.1 p1.2 (by rw [sdef p pq]; exact p2)]; exact p3, fun z => ?_⟩
      show (if p = q then K else od p) < (if i = q then K else od i)
      rw [if_neg pq]
      have hop := ((h2 p p1.1 p1.2).2.2.1 p2).2.2.2
      by_cases e : i = q
      · rw [if_pos e]; exact hop
      · rw [if_neg e]
        rw [sdef i e] at z
        exact p4 z
  · have h7 := sm_one (f := st) (g := st') (k := n.toNat) hqb.1 (by omega) (fun i i0 i1 hi => sdef i hi)
    omega
  · by_cases hz : K = 0
    · rw [← hq0 hz hqb hm]; exact sqq
    · have := h6 (by omega)
      rw [sdef _ (ss _ this)]; exact this
theorem PDJ.fin (H : PDJ n C u v co ro d st od n D) (hn : 1 ≤ n) : PTH n.toNat C u v co ro d od := by
  have en : ((n.toNat : Nat) : Int) = n := by omega
  have hall : ∀ i : Int, 0 ≤ i → i < n → st i = 1 := fun i i0 i1 => by
    rcases (H.2.1 i i0 i1).1 with z | z
    · exfalso
      have h6 : sm' n.toNat st ≤ sm' n.toNat (fun j => if j = i then 0 else 1) := sm_mono (fun j j0 j1 => by
        have t := (H.2.1 j j0 (by omega)).1
        by_cases e : j = i
        · rw [if_pos e, e, z]; exact Int.le_refl _
        · rw [if_neg e]; omega)
      have h7 := sm_one (f := fun _ => (1 : Int)) (g := fun j => if j = i then 0 else 1) (k := n.toNat) i0 (by omega) (fun j _ _ hj => if_neg hj)
      rw [sm_k] at h7
      simp only [if_true] at h7
      rw [H.2.2.2.2.1] at h6
      omega
    · exact z
  obtain ⟨h1, h2, h3, h4, -⟩ := H
  refine ⟨h1, fun i i0 i1 => ?_, fun p j p0 p1 j0 j1 => h3 p j p0 (by omega) (hall p p0 (by omega)) j0 (by omega), fun i i0 i1 hi => ?_⟩
  · have t := h2 i i0 (by omega)
    have t2 := t.2.2.1 (hall i i0 (by omega))
    exact ⟨t.2.1.1, t2.2.2.1⟩
  · have t := (h2 i i0 (by omega)).2.2.1 (hall i i0 (by omega))
    obtain ⟨p, p1, p2, p3, p4⟩ := h4 i i0 (by omega) hi t.2.1
    exact ⟨p, p1.1, by omega, p4 (hall i i0 (by omega)), p3⟩
end PDS
