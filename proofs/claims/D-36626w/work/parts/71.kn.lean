/-! THE PLAIN LAW, 7: rows that move on to other columns (alternating paths without cost) -/
set_option maxRecDepth 100000
set_option maxHeartbeats 4000000
/-- what a search for a row may start from: vis = columns that were seen -/
def KI (n : Int) (C : Int → Int → Int) (L row : Int) (ro vis : Int → Int) : Prop :=
  (∀ q : Int, 0 ≤ q → q < n → vis q = 0 → ro q ≠ -1 → C (ro q) q ≤ L ∧ ro q ≠ row) ∧
  (∀ p q : Int, 0 ≤ p → p < n → 0 ≤ q → q < n → vis p = 0 → vis q = 0 → ro p = ro q → ro p ≠ -1 → p = q)
/-- the row got a column -/
def KS (n : Int) (C : Int → Int → Int) (L row : Int) (ro vis ro' : Int → Int) : Prop :=
  (∀ q : Int, 0 ≤ q → q < n → vis q ≠ 0 → ro' q = ro q) ∧
  (∀ q : Int, 0 ≤ q → q < n → vis q = 0 → ro' q = -1 ∨ ro' q = row ∨ ∃ p : Int, (0 ≤ p ∧ p < n) ∧ vis p = 0 ∧ ro p = ro' q ∧ ro p ≠ -1) ∧
  (∀ q : Int, 0 ≤ q → q < n → vis q = 0 → ro q ≠ -1 → ∃ p : Int, (0 ≤ p ∧ p < n) ∧ vis p = 0 ∧ ro' p = ro q) ∧
  (∃ p : Int, (0 ≤ p ∧ p < n) ∧ vis p = 0 ∧ ro' p = row) ∧
  (∀ p q : Int, 0 ≤ p → p < n → 0 ≤ q → q < n → vis p = 0 → vis q = 0 → ro' p = ro' q → ro' p ≠ -1 → p = q) ∧
  (∀ q : Int, 0 ≤ q → q < n → vis q = 0 → ro' q ≠ -1 → C (ro' q) q ≤ L)
/-- columns below j were tried in vain; cur = columns seen now -/
def KC (n : Int) (C : Int → Int → Int) (L row : Int) (ro vis cur : Int → Int) (j : Int) : Prop :=
  (∀ q : Int, 0 ≤ q → q < n → (cur q = 0 ∨ cur q = 1) ∧ (vis q = 1 → cur q = 1)) ∧
  (∀ q : Int, 0 ≤ q → q < j → q < n → C row q ≤ L → cur q = 1) ∧
  (∀ p : Int, 0 ≤ p → p < n → vis p = 0 → cur p = 1 → ro p ≠ -1 ∧ ∀ q : Int, 0 ≤ q → q < n → C (ro p) q ≤ L → cur q = 1)
section KNS
variable {n L row j : Int} {C : Int → Int → Int} {ro vis cur cur2 cur' ro' ro1 : Int → Int}
theorem KC.init (hv : ∀ q : Int, 0 ≤ q → q < n → vis q = 0 ∨ vis q = 1) : KC n C L row ro vis vis 0 :=
  ⟨fun q q0 q1 => ⟨hv q q0 q1, id⟩, fun q q0 q1 => by omega, fun p p0 p1 e1 e2 => by omega⟩
theorem KC.skip (H : KC n C L row ro vis cur j) (hs : cur j = 1 ∨ L < C row j) : KC n C L row ro vis cur (j + 1) :=
  ⟨H.1, fun q q0 q1 q2 e => by
    by_cases z : q = j
    · rcases hs with y | y
      · rw [z]; exact y
      · rw [z] at e; omega
    · exact H.2.1 q q0 (by omega) q2 e, H.2.2⟩
theorem KC.fail (H : KC n C L row ro vis cur j) (hj : (0 ≤ j ∧ j < n) ∧ cur j = 0 ∧ ro j ≠ -1) (h2 : ∀ q : Int, cur2 q = if q = j then 1 else cur q) (hI : KC n C L (ro j) ro cur2 cur' n) : KC n C L row ro vis cur' (j + 1) := by
  obtain ⟨h1, h3, h4⟩ := H
  obtain ⟨i1, i2, i3⟩ := hI
  have up : ∀ q : Int, 0 ≤ q → q < n → cur q = 1 → cur' q = 1 := fun q q0 q1 e => (i1 q q0 q1).2 (by rw [h2 q]; split <;> first | rfl | exact e)
  refine ⟨fun q q0 q1 => ⟨(i1 q q0 q1).1, fun e => up q q0 q1 ((h1 q q0 q1).2 e)⟩, fun q q0 q1 q2 e => ?_, fun p p0 p1 e1 e2 => ?_⟩
  · by_cases z : q = j
    · rw [z]; exact (i1 j hj.1.1 hj.1.2).2 (by rw [h2 j, if_pos rfl])
    · exact up q q0 q2 (h3 q q0 (by omega) q2 e)
  · by_cases z : p = j
    · rw [z]; exact ⟨hj.2.2, fun q q0 q1 e => i2 q q0 q1 q1 e⟩
    · rcases (h1 p p0 p1).1 with y | y
      · have y2 : cur2 p = 0 := by rw [h2 p, if_neg z]; exact y
        exact i3 p p0 p1 y2 e2
      · have t := h4 p p0 p1 e1 y
        exact ⟨t.1, fun q q0 q1 e => up q q0 q1 (t.2 q q0 q1 e)⟩
theorem KC.v0 (H : KC n C L row ro vis cur j) (hv : ∀ q : Int, 0 ≤ q → q < n → vis q = 0 ∨ vis q = 1) {q : Int} (q0 : 0 ≤ q) (q1 : q < n) (e : cur q = 0) : vis q = 0 := by
  rcases hv q q0 q1 with z | z
  · exact z
  · have := (H.1 q q0 q1).2 z; omega
theorem KI.inn (H : KI n C L row ro vis) (hK : KC n C L row ro vis cur j) (hv : ∀ q : Int, 0 ≤ q → q < n → vis q = 0 ∨ vis q = 1) (hj : (0 ≤ j ∧ j < n) ∧ cur j = 0 ∧ ro j ≠ -1) (h2 : ∀ q : Int, cur2 q = if q = j then 1 else cur q) : KI n C L (ro j) ro cur2 := by
  have hc : ∀ q : Int, cur2 q = 0 → q ≠ j ∧ cur q = 0 := fun q e => by
    rw [h2 q] at e
    by_cases z : q = j
    · rw [if_pos z] at e; omega
    · rw [if_neg z] at e; exact ⟨z, e⟩
  refine ⟨fun q q0 q1 e1 e2 => ?_, fun p q p0 p1 q0 q1 e1 e2 e3 e4 => H.2 p q p0 p1 q0 q1 (hK.v0 hv p0 p1 (hc p e1).2) (hK.v0 hv q0 q1 (hc q e2).2) e3 e4⟩
  have t := hc q e1
  refine ⟨(H.1 q q0 q1 (hK.v0 hv q0 q1 t.2) e2).1, fun z => t.1 (H.2 q j q0 q1 hj.1.1 hj.1.2 (hK.v0 hv q0 q1 t.2) (hK.v0 hv hj.1.1 hj.1.2 hj.2.1) z e2)⟩
theorem KC.free (H : KC n C L row ro vis cur j) (hv : ∀ q : Int, 0 ≤ q → q < n → vis q = 0 ∨ vis q = 1) (hI : KI n C L row ro vis) (hrow : row ≠ -1) (hj : (0 ≤ j ∧ j < n) ∧ cur j = 0 ∧ ro j = -1) (hL : C row j ≤ L) (hr : ∀ q : Int, ro' q = if q = j then row else ro q) : KS n C L row ro vis ro' := by
  have vj := H.v0 hv hj.1.1 hj.1.2 hj.2.1
  have rj : ro' j = row := by rw [hr j, if_pos rfl]
  have rn : ∀ q : Int, q ≠ j → ro' q = ro q := fun q hq => by rw [hr q, if_neg hq]
  refine ⟨fun q q0 q1 e => rn q (fun z => e (by rw [z]; exact vj)), fun q q0 q1 e => ?_, fun q q0 q1 e1 e2 => ⟨q, ⟨q0, q1⟩, e1, rn q (fun z => e2 (by rw [z]; exact hj.2.2))⟩, ⟨j, hj.1, vj, rj⟩, fun p q p0 p1 q0 q1 e1 e2 e3 e4 => ?_, fun q q0 q1 e1 e2 => ?_⟩
  · by_cases z : q = j
    · exact Or.inr (Or.inl (by rw [z]; exact rj))
    · rw [rn q z]
      by_cases y : ro q = -1
      · exact Or.inl y
      · exact Or.inr (Or.inr ⟨q, ⟨q0, q1⟩, e, rfl, y⟩)
  · by_cases zp : p = j
    · by_cases zq : q = j
      · rw [zp, zq]
      · rw [zp, rj, rn q zq] at e3
        exact absurd e3.symm (hI.1 q q0 q1 e2 (by rw [← e3]; exact hrow)).2
    · rw [rn p zp] at e3 e4
      by_cases zq : q = j
      · rw [zq, rj] at e3
        exact absurd e3 (hI.1 p p0 p1 e1 e4).2
      · rw [rn q zq] at e3
        exact hI.2 p q p0 p1 q0 q1 e1 e2 e3 e4
  · by_cases z : q = j
    · rw [z, rj]; exact hL
    · rw [rn q z] at e2 ⊢
      exact (hI.1 q q0 q1 e1 e2).1
theorem KC.succ (H : KC n C L row ro vis cur j) (hv : ∀ q : Int, 0 ≤ q → q < n → vis q = 0 ∨ vis q = 1) (hI : KI n C L row ro vis) (hrow : row ≠ -1) (hj : (0 ≤ j ∧ j < n) ∧ cur j = 0 ∧ ro j ≠ -1) (hL : C row j ≤ L) (h2 : ∀ q : Int, cur2 q = if q = j then 1 else cur q) (hS : KS n C L (ro j) ro cur2 ro1) (hr : ∀ q : Int, ro' q = if q = j then row else ro1 q) : KS n C L row ro vis ro' := by
  obtain ⟨s1, s2, s3, s4, s5, s6⟩ := hS
  have vj := H.v0 hv hj.1.1 hj.1.2 hj.2.1
  have rj : ro' j = row := by rw [hr j, if_pos rfl]
  have rn : ∀ q : Int, q ≠ j → ro' q = ro1 q := fun q hq => by rw [hr q, if_neg hq]
  have hc : ∀ q : Int, cur2 q = 0 → q ≠ j ∧ cur q = 0 := fun q e => by
    rw [h2 q] at e
    by_cases z : q = j
    · rw [if_pos z] at e; omega
    · rw [if_neg z] at e; exact ⟨z, e⟩
  have hcv : ∀ q : Int, 0 ≤ q → q < n → cur2 q = 0 → vis q = 0 := fun q q0 q1 e => H.v0 hv q0 q1 (hc q e).2
  -- values at unseen columns are old ones
  have val : ∀ q : Int, 0 ≤ q → q < n → vis q = 0 → q ≠ j → ro' q ≠ -1 → ∃ p : Int, (0 ≤ p ∧ p < n) ∧ vis p = 0 ∧ ro p = ro' q ∧ ro p ≠ -1 ∧ (cur2 q ≠ 0 → p = q) ∧ (cur2 q = 0 → p = j ∨ cur2 p = 0) := fun q q0 q1 e z y => by
    rw [rn q z] at y ⊢
    by_cases c : cur2 q = 0
    · rcases s2 q q0 q1 c with t | t | ⟨p, p1, p2, p3, p4⟩
      · exact absurd t y
      · exact ⟨j, hj.1, vj, t.symm, hj.2.2, fun w => absurd c w, fun _ => Or.inl rfl⟩
      · exact ⟨p, p1, hcv p p1.1 p1.2 p2, p3, p4, fun w => absurd c w, fun _ => Or.inr p2⟩
    · have t := s1 q q0 q1 c
      rw [t] at y ⊢
      exact ⟨q, ⟨q0, q1⟩, e, rfl, y, fun _ => rfl, fun w => absurd w c⟩
  refine ⟨fun q q0 q1 e => ?_, fun q q0 q1 e => ?_, fun q q0 q1 e1 e2 => ?_, ⟨j, hj.1, vj, rj⟩, fun p q p0 p1 q0 q1 e1 e2 e3 e4 => ?_, fun q q0 q1 e1 e2 => ?_⟩
  · have z : q ≠ j := fun z => e (by rw [z]; exact vj)
    rw [rn q z]
    exact s1 q q0 q1 (fun w => e (hcv q q0 q1 w))
  · by_cases z : q = j
    · exact Or.inr (Or.inl (by rw [z]; exact rj))
    · by_cases y : ro' q = -1
      · exact Or.inl y
      · obtain ⟨p, p1, p2, p3, p4, -⟩ := val q q0 q1 e z y
        exact Or.inr (Or.inr ⟨p, p1, p2, p3, p4⟩)
  · by_cases c : cur2 q = 0
    · obtain ⟨p, p1, p2, p3⟩ := s3 q q0 q1 c e2
      exact ⟨p, p1, hcv p p1.1 p1.2 p2, by rw [rn p (hc p p2).1]; exact p3⟩
    · by_cases z : q = j
      · obtain ⟨p, p1, p2, p3⟩ := s4
        exact ⟨p, p1, hcv p p1.1 p1.2 p2, by rw [rn p (hc p p2).1, z]; exact p3⟩
      · exact ⟨q, ⟨q0, q1⟩, e1, by rw [rn q z]; exact s1 q q0 q1 c⟩
  · by_cases zp : p = j
    · by_cases zq : q = j
      · rw [zp, zq]
      · exfalso
        rw [zp, rj] at e3
        obtain ⟨x, x1, x2, x3, x4, -⟩ := val q q0 q1 e2 zq (by rw [← e3]; exact hrow)
        exact (hI.1 x x1.1 x1.2 x2 x4).2 (x3.trans e3.symm)
    · by_cases zq : q = j
      · exfalso
        rw [zq, rj] at e3
        obtain ⟨x, x1, x2, x3, x4, -⟩ := val p p0 p1 e1 zp e4
        exact (hI.1 x x1.1 x1.2 x2 x4).2 (x3.trans e3)
      · by_cases cp : cur2 p = 0
        · by_cases cq : cur2 q = 0
          · rw [rn p zp, rn q zq] at e3
            rw [rn p zp] at e4
            exact s5 p q p0 p1 q0 q1 cp cq e3 e4
          · exfalso
            obtain ⟨x, x1, x2, x3, x4, -, x6⟩ := val p p0 p1 e1 zp e4
            obtain ⟨y, y1, y2, y3, y4, y5, -⟩ := val q q0 q1 e2 zq (by rw [← e3]; exact e4)
            have e5 := y5 cq
            have e6 := hI.2 x y x1.1 x1.2 y1.1 y1.2 x2 y2 (by rw [x3, y3]; exact e3) x4
            rcases x6 cp with w | w
            · exact zq (by rw [← e5, ← e6]; exact w)
            · exact cq (by rw [← e5, ← e6]; exact w)
        · by_cases cq : cur2 q = 0
          · exfalso
            obtain ⟨x, x1, x2, x3, x4, x5, -⟩ := val p p0 p1 e1 zp e4
            obtain ⟨y, y1, y2, y3, y4, -, y6⟩ := val q q0 q1 e2 zq (by rw [← e3]; exact e4)
            have e5 := x5 cp
            have e6 := hI.2 x y x1.1 x1.2 y1.1 y1.2 x2 y2 (by rw [x3, y3]; exact e3) x4
            rcases y6 cq with w | w
            · exact zp (by rw [← e5, e6]; exact w)
            · exact cp (by rw [← e5, e6]; exact w)
          · obtain ⟨x, x1, x2, x3, x4, x5, -⟩ := val p p0 p1 e1 zp e4
            obtain ⟨y, y1, y2, y3, y4, y5, -⟩ := val q q0 q1 e2 zq (by rw [← e3]; exact e4)
            have e6 := hI.2 x y x1.1 x1.2 y1.1 y1.2 x2 y2 (by rw [x3, y3]; exact e3) x4
            rw [← x5 cp, ← y5 cq]; exact e6
  · by_cases z : q = j
    · rw [z, rj]; exact hL
    · rw [rn q z] at e2 ⊢
      by_cases c : cur2 q = 0
      · exact s6 q q0 q1 c e2
      · have t := s1 q q0 q1 c
        rw [t] at e2 ⊢
        exact (hI.1 q q0 q1 e1 e2).1
/-- i rows have columns -/
def KM (n i : Int) (C : Int → Int → Int) (L : Int) (ro : Int → Int) : Prop :=
  (∀ q : Int, 0 ≤ q → q < n → ro q = -1 ∨ (0 ≤ ro q ∧ ro q < i ∧ C (ro q) q ≤ L)) ∧
  (∀ p q : Int, 0 ≤ p → p < n → 0 ≤ q → q < n → ro p = ro q → ro p ≠ -1 → p = q) ∧
  (∀ r : Int, 0 ≤ r → r < i → ∃ p : Int, (0 ≤ p ∧ p < n) ∧ ro p = r)
variable {i : Int}
theorem KM.ki (H : KM n i C L ro) : KI n C L i ro vis :=
  ⟨fun q q0 q1 _ e => by
    rcases H.1 q q0 q1 with z | z
    · exact absurd z e
    · exact ⟨z.2.2, by omega⟩, fun p q p0 p1 q0 q1 _ _ e3 e4 => H.2.1 p q p0 p1 q0 q1 e3 e4⟩
theorem KM.succ (H : KM n i C L ro) (hi : 0 ≤ i) (hv : ∀ q : Int, 0 ≤ q → q < n → vis q = 0) (hS : KS n C L i ro vis ro') : KM n (i + 1) C L ro' := by
  obtain ⟨s1, s2, s3, s4, s5, s6⟩ := hS
  refine ⟨fun q q0 q1 => ?_, fun p q p0 p1 q0 q1 e3 e4 => s5 p q p0 p1 q0 q1 (hv p p0 p1) (hv q q0 q1) e3 e4, fun r r0 r1 => ?_⟩
  · rcases s2 q q0 q1 (hv q q0 q1) with z | z | ⟨p, p1, p2, p3, p4⟩
    · exact Or.inl z
    · exact Or.inr ⟨by omega, by omega, s6 q q0 q1 (hv q q0 q1) (by omega)⟩
    · rcases H.1 p p1.1 p1.2 with y | y
      · exact absurd y p4
      · exact Or.inr ⟨by omega, by omega, s6 q q0 q1 (hv q q0 q1) (by omega)⟩
  · by_cases z : r = i
    · obtain ⟨p, p1, -, p3⟩ := s4
      exact ⟨p, p1, by rw [z]; exact p3⟩
    · obtain ⟨q, q1, q2⟩ := H.2.2 r r0 (by omega)
      obtain ⟨p, p1, -, p3⟩ := s3 q q1.1 q1.2 (hv q q1.1 q1.2) (by omega)
      exact ⟨p, p1, by rw [p3]; exact q2⟩
theorem KM.all (H : KM n n C L ro) (hn : 0 ≤ n) : MT' n.toNat C L := by
  obtain ⟨f, hf⟩ : ∃ f : Int → Int, ∀ r : Int, 0 ≤ r → r < n → (0 ≤ f r ∧ f r < n) ∧ ro (f r) = r := by
    classical
    exact ⟨fun r => if hr : 0 ≤ r ∧ r < n then Classical.choose (H.2.2 r hr.1 hr.2) else 0, fun r r0 r1 => by
      simp only [dif_pos (And.intro r0 r1)]
      exact Classical.choose_spec (H.2.2 r r0 r1)⟩
  have hm : pOf n.toNat f ∈ pmN n.toNat := pOf_mem (fun i i0 i1 => by have := (hf i i0 (by omega)).1; omega) (fun i j i0 i1 j0 j1 e => by
    rw [← (hf i i0 (by omega)).2, ← (hf j j0 (by omega)).2, e])
  refine ⟨_, hm, pA_iff.mpr (fun k hk => ?_)⟩
  rw [pOf_len] at hk
  have t := hf (k : Int) (by omega) (by omega)
  rw [pOf_get hk, Int.toNat_of_nonneg t.1.1, show 0 + (k : Int) = k by omega]
  rcases H.1 (f k) t.1.1 t.1.2 with z | z
  · omega
  · rw [t.2] at z; exact z.2.2
theorem KM.no (H : KM n i C L ro) (hi : 0 ≤ i ∧ i < n) (hv : ∀ q : Int, 0 ≤ q → q < n → vis q = 0) (hK : KC n C L i ro vis cur n) : ¬ MT' n.toNat C L := by
  rintro ⟨σ, hσ, hA⟩
  have en : ((n.toNat : Nat) : Int) = n := by omega
  obtain ⟨s, hs⟩ : ∃ s : Int → Int, s = fun r => ((σ.getD r.toNat 0 : Nat) : Int) := ⟨_, rfl⟩
  have hsb : ∀ r : Int, 0 ≤ r → r < n → (0 ≤ s r ∧ s r < n) ∧ C r (s r) ≤ L := fun r r0 r1 => by
    have h1 := pA_at hσ hA r0 (by omega)
    have h2 := pm_get hσ (k := r.toNat) (by omega)
    rw [hs]
    show (0 ≤ ((σ.getD r.toNat 0 : Nat) : Int) ∧ ((σ.getD r.toNat 0 : Nat) : Int) < n) ∧ _
    exact ⟨⟨by omega, by omega⟩, h1⟩
  have hsi : ∀ r r' : Int, 0 ≤ r → r < n → 0 ≤ r' → r' < n → s r = s r' → r = r' := fun r r' r0 r1 r2 r3 e => by
    have e2 : ((σ.getD r.toNat 0 : Nat) : Int) = ((σ.getD r'.toNat 0 : Nat) : Int) := by rw [hs] at e; exact e
    have hl := pmN_mem.mp hσ
    have := nd_inj hl.2.1 (i := r.toNat) (j := r'.toNat) (by omega) (by omega) (by omega)
    omega
  -- rows that are reached
  obtain ⟨Rr, hRr⟩ : ∃ Rr : Int → Prop, Rr = fun r => (0 ≤ r ∧ r < n) ∧ (r = i ∨ ∃ p : Int, (0 ≤ p ∧ p < n) ∧ cur p = 1 ∧ ro p = r) := ⟨_, rfl⟩
  have hR1 : ∀ r, Rr r → cur (s r) = 1 := fun r hr => by
    rw [hRr] at hr
    obtain ⟨rb, z | ⟨p, p1, p2, p3⟩⟩ := hr
    · have t := hsb r rb.1 rb.2
      exact hK.2.1 (s r) t.1.1 t.1.2 t.1.2 (by rw [← z]; exact t.2)
    · have t := hsb r rb.1 rb.2
      exact (hK.2.2 p p1.1 p1.2 (hv p p1.1 p1.2) p2).2 (s r) t.1.1 t.1.2 (by rw [p3]; exact t.2)
  have hR2 : ∀ r, Rr r → (0 ≤ r ∧ r < n) ∧ ro (s r) ≠ -1 ∧ Rr (ro (s r)) ∧ ro (s r) ≠ i := fun r hr => by
    have hc := hR1 r hr
    rw [hRr] at hr
    have t := hsb r hr.1.1 hr.1.2
    have n1 := (hK.2.2 (s r) t.1.1 t.1.2 (hv _ t.1.1 t.1.2) hc).1
    rcases H.1 (s r) t.1.1 t.1.2 with z | z
    · exact absurd z n1
    · refine ⟨hr.1, n1, ?_, by omega⟩
      rw [hRr]
      exact ⟨⟨z.1, by omega⟩, Or.inr ⟨s r, t.1, hc, rfl⟩⟩
  obtain ⟨G, hG1, hG2⟩ : ∃ G : Int → Int, (∀ r, Rr r → G r = ro (s r)) ∧ (∀ r, ¬ Rr r → G r = r) := by
    classical
    exact ⟨fun r => if Rr r then ro (s r) else r, fun r hr => if_pos hr, fun r hr => if_neg hr⟩
  have hGb : ∀ r : Int, 0 ≤ r → r < n → 0 ≤ G r ∧ G r < n := fun r r0 r1 => by
    by_cases hr : Rr r
    · rw [hG1 r hr]
      have t := (hR2 _ (hR2 r hr).2.2.1).1
      exact t
    · rw [hG2 r hr]; exact ⟨r0, r1⟩
  have hGi : ∀ a b : Int, 0 ≤ a → a < n → 0 ≤ b → b < n → G a = G b → a = b := fun a b a0 a1 b0 b1 e => by
    by_cases ha : Rr a
    · by_cases hb : Rr b
      · rw [hG1 a ha, hG1 b hb] at e
        have ta := hsb a a0 a1
        have tb := hsb b b0 b1
        exact hsi a b a0 a1 b0 b1 (H.2.1 _ _ ta.1.1 ta.1.2 tb.1.1 tb.1.2 e (hR2 a ha).2.1)
      · rw [hG1 a ha, hG2 b hb] at e
        exact absurd (by rw [← e]; exact (hR2 a ha).2.2.1) hb
    · by_cases hb : Rr b
      · rw [hG2 a ha, hG1 b hb] at e
        exact absurd (by rw [e]; exact (hR2 b hb).2.2.1) ha
      · rw [hG2 a ha, hG2 b hb] at e; exact e
  have hbij := sm_bij (n := n.toNat) (f := G) (g := fun r => if r = i then 1 else 0) (fun a a0 a1 => by have := hGb a a0 (by omega); omega) (fun a b a0 a1 b0 b1 e => hGi a b a0 (by omega) b0 (by omega) e)
  have hRi : Rr i := by rw [hRr]; exact ⟨hi, Or.inl rfl⟩
  have hz : sm' n.toNat (fun a => (fun r => if r = i then (1 : Int) else 0) (G a)) = sm' n.toNat (fun _ => 0) := sm_cg (fun a a0 a1 => by
    show (if G a = i then (1 : Int) else 0) = 0
    refine if_neg (fun z => ?_)
    by_cases ha : Rr a
    · rw [hG1 a ha] at z
      exact (hR2 a ha).2.2.2 z
    · rw [hG2 a ha] at z
      rw [z] at ha
      exact ha hRi)
  have h7 := sm_one (f := fun _ => (0 : Int)) (g := fun r => if r = i then 1 else 0) (k := n.toNat) hi.1 (by omega) (fun a _ _ ha => if_neg ha)
  rw [hz] at hbij
  rw [sm_k] at h7 hbij
  simp only [if_true] at h7
  omega
end KNS
