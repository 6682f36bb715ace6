/-! THE PLAIN LAW, 4: the objectives -/
set_option maxRecDepth 100000
theorem ps_pt {n : Nat} {R : Int → Int → Int} {σ : List Nat} (hσ : σ ∈ pmN n) (hR : ∀ i j : Int, 0 ≤ i → i < n → 0 ≤ j → j < n → 0 ≤ R i j) {i : Int} (i0 : 0 ≤ i) (i1 : i < n) : R i (σ.getD i.toNat 0 : Nat) ≤ ps R 0 σ := by
  rw [ps_pm hσ]
  exact sm_ge (k := n) (a := i) (f := fun k => R k (σ.getD k.toNat 0 : Nat)) i0 i1 (fun k k0 k1 _ => by
    have := pm_get hσ (k := k.toNat) (by omega)
    exact hR _ _ k0 k1 (by omega) (by omega))
theorem id_mem (n : Nat) : List.range n ∈ pmN n := pmN_mem.mpr ⟨List.length_range, List.nodup_range, fun x hx => List.mem_range.mp hx⟩
theorem put_mem {n r c : Nat} (hr : r < n) (hc : c < n) : ∃ σ ∈ pmN n, σ.getD r 0 = c := by
  refine ⟨sw (List.range n) r c, sw_mem (id_mem n) hr hc, ?_⟩
  rw [sw_get (by simpa using hr) (by simpa using hc)]
  split
  · rename_i h; rw [range_getD hr, h]
  · rw [if_pos rfl, range_getD hc]
theorem woF_word {f : Int → Int} {c : Int} : ∀ k : Nat, (∀ i : Int, 0 ≤ i → i < k → i ≠ c → woF f c k ≤ f i) ∧ (woF f c k = 1000000 ∨ ∃ i : Int, 0 ≤ i ∧ i < k ∧ i ≠ c ∧ woF f c k = f i)
  | 0 => ⟨fun i i0 i1 => absurd i1 (by omega), Or.inl rfl⟩
  | k + 1 => by
    obtain ⟨h1, h2⟩ := woF_word (f := f) (c := c) k
    unfold woF
    refine ⟨fun i i0 i1 hi => ?_, ?_⟩
    · by_cases hik : i = k
      · subst hik
        split
        · exact Int.le_refl _
        · rename_i hc
          have : ¬ f (k : Int) < woF f c k := fun z => hc ⟨hi, z⟩
          omega
      · have h3 := h1 i i0 (by omega) hi
        split
        · rename_i hc; omega
        · exact h3
    · split
      · rename_i hc
        exact Or.inr ⟨k, by omega, by omega, hc.1, rfl⟩
      · rcases h2 with z | ⟨i, i0, i1, i2, i3⟩
        · exact Or.inl z
        · exact Or.inr ⟨i, i0, by omega, i2, i3⟩
section OB
variable {n m z : Int} {h : Int → Int → Int}
theorem OB_b (hn : 1 ≤ n ∧ n ≤ 7) (hC : bC (tC m h) n) : ∀ σ ∈ pmN n.toNat, (0 ≤ ps (tC m h) 0 σ ∧ ps (tC m h) 0 σ ≤ 7000) ∧ (0 ≤ pd (tC m h) 0 σ 0 ∧ pd (tC m h) 0 σ 0 ≤ 1000) :=
  pm_bnd (n := n.toNat) (by omega) (by rw [Int.toNat_of_nonneg (by omega)]; exact hC)
theorem OB_lk (hn : 1 ≤ n ∧ n ≤ 7) (hC : bC (tC m h) n) : LKw (tC m h) (pmN n.toNat) (LK n m h) :=
  lkF_word _ (fun σ hσ => by have := (OB_b hn hC σ hσ).1; omega) (pm_ne _ (by omega))
theorem OB_mn (hn : 1 ≤ n ∧ n ≤ 7) (hC : bC (tC m h) n) : MN' n.toNat (tC m h) (LK n m h).1 ∧ (LK n m h).2.2.2.2.2 ∈ pmN n.toNat :=
  lkF_mn (by omega) (fun σ hσ => by have := (OB_b hn hC σ hσ).1; omega)
theorem OB_min (hn : 1 ≤ n ∧ n ≤ 7) (hC : bC (tC m h) n) (H : MN' n.toNat (tC m h) z) : (LK n m h).1 = z := (OB_mn hn hC).1.uniq H
theorem OB_cnt {u v co ro : Int → Int} (hn : 1 ≤ n ∧ n ≤ 7) (hC : bC (tC m h) n) (H : OPT n.toNat (tC m h) u v co ro) : (LK n m h).2.1 = cW n.toNat (fun a b => tC m h a b - u a - v b) n.toNat 0 0 := by
  rw [(OB_lk hn hC).2, cW_cnt H.1 _ _ _ (Nat.le_refl _) (Int.le_refl _), ← pmN_M (by omega), Int.sub_self]
  congr 1
  refine List.countP_congr (fun τ hτ => ?_)
  have h1 := (OB_min hn hC H.min)
  have h2 := H.opt hτ
  have h3 := H.nn hτ
  simp only [decide_eq_true_eq]
  rw [h1, h2]
  omega
theorem OB_first {u v co ro : Int → Int} (hn : 1 ≤ n ∧ n ≤ 7) (hC : bC (tC m h) n) (H : OPT n.toNat (tC m h) u v co ro) : fZ n.toNat (fun a b => tC m h a b - u a - v b) n.toNat 0 = some (LK n m h).2.2.2.2.2 ∧ cW n.toNat (fun a b => tC m h a b - u a - v b) n.toNat 0 0 ≠ 0 := by
  obtain ⟨⟨l1, l2, e1, e2, e3, -⟩, -⟩ := OB_lk hn hC
  have h1 := (OB_min hn hC H.min)
  have hm := (OB_mn hn hC).2
  have hz : ps (fun a b => tC m h a b - u a - v b) 0 (LK n m h).2.2.2.2.2 ≤ 0 := by
    have := (H.opt hm).mp (by rw [← e2, h1])
    omega
  have hl1 : ∀ τ ∈ l1, τ ∈ pmN n.toNat := fun τ hτ => by rw [e1]; exact List.mem_append.mpr (Or.inl hτ)
  constructor
  · unfold fZ
    rw [← pmN_M (by omega), Int.sub_self]
    refine List.find?_eq_some_iff_append.mpr ⟨by simpa using hz, l1, l2, e1, fun τ hτ => ?_⟩
    have h2 := e3 τ hτ
    have h3 := H.opt (hl1 τ hτ)
    have h4 := H.nn (hl1 τ hτ)
    have : ¬ ps (fun a b => tC m h a b - u a - v b) 0 τ ≤ 0 := fun z => by
      have := h3.mpr (by omega)
      omega
    simpa using this
  · rw [cW_cnt H.1 _ _ _ (Nat.le_refl _) (Int.le_refl _), ← pmN_M (by omega), Int.sub_self]
    intro hc
    have h2 : (pmN n.toNat).countP (fun τ => decide (ps (fun a b => tC m h a b - u a - v b) 0 τ ≤ 0)) = 0 := by omega
    exact (List.countP_eq_zero.mp h2 _ hm) (by simpa using hz)
theorem OB_wth (hn : 1 ≤ n ∧ n ≤ 7) (hC : bC (tC m h) n) {r c : Int} (hr : 0 ≤ r ∧ r < n) (hc : 0 ≤ c ∧ c < n) :
    (∀ σ ∈ pmN n.toNat, σ.getD r.toNat 0 = c.toNat → LW n m h (7 * r + c) ≤ ps (tC m h) 0 σ) ∧ ∃ σ ∈ pmN n.toNat, σ.getD r.toNat 0 = c.toNat ∧ LW n m h (7 * r + c) = ps (tC m h) 0 σ := by
  have hw := lwF_word (C := tC m h) (i := r.toNat) (j := c.toNat) (by omega) (pmN n.toNat)
  rw [show 7 * ((r.toNat : Nat) : Int) + ((c.toNat : Nat) : Int) = 7 * r + c by omega] at hw
  have h1 : ∀ σ ∈ pmN n.toNat, σ.getD r.toNat 0 = c.toNat → LW n m h (7 * r + c) ≤ ps (tC m h) 0 σ := fun σ hσ hg => hw.1 σ hσ (by have := (pmN_mem.mp hσ).1; omega) hg
  refine ⟨h1, ?_⟩
  rcases hw.2 with e | ⟨σ, s1, s2, s3, s4⟩
  · obtain ⟨σ, s1, s2⟩ := put_mem (n := n.toNat) (r := r.toNat) (c := c.toNat) (by omega) (by omega)
    have h2 := h1 σ s1 s2
    have h3 := (OB_b hn hC σ s1).1
    unfold LW at h2
    omega
  · exact ⟨σ, s1, s3, s4⟩
theorem OB_with (hn : 1 ≤ n ∧ n ≤ 7) (hC : bC (tC m h) n) {r c : Int} (hr : 0 ≤ r ∧ r < n) (hc : 0 ≤ c ∧ c < n) (H : MN' n.toNat (fun i j => if i = r ∧ j ≠ c then 10000 else tC m h i j) z) : LW n m h (7 * r + c) = z := by
  obtain ⟨w1, σ, s1, s2, s3⟩ := OB_wth hn hC hr hc
  have hnn : ∀ i j : Int, 0 ≤ i → i < n.toNat → 0 ≤ j → j < n.toNat → 0 ≤ (fun i j => if i = r ∧ j ≠ c then (10000 : Int) else tC m h i j) i j := fun i j i0 i1 j0 j1 => by
    have := hC i j i0 (by omega) j0 (by omega)
    (try dsimp only)
    split <;> omega
  have heq : ∀ τ ∈ pmN n.toNat, τ.getD r.toNat 0 = c.toNat → ps (fun i j => if i = r ∧ j ≠ c then (10000 : Int) else tC m h i j) 0 τ = ps (tC m h) 0 τ := fun τ hτ hg => by
    rw [ps_pm hτ, ps_pm hτ]
    refine sm_cg (fun k k0 k1 => ?_)
    by_cases hk : k = r
    · subst hk
      rw [hg]; (try dsimp only); rw [if_neg (fun z => z.2 (by omega))]
    · (try dsimp only); rw [if_neg (fun z => hk z.1)]
  have h1 := H.1 σ s1
  rw [heq σ s1 s2, ← s3] at h1
  obtain ⟨τ, t1, t2⟩ := H.2
  have h3 := (OB_b hn hC σ s1).1
  by_cases hg : τ.getD r.toNat 0 = c.toNat
  · rw [heq τ t1 hg] at t2
    have := w1 τ t1 hg
    omega
  · have h4 := ps_pt t1 hnn hr.1 (by omega)
    (try dsimp only at h4)
    rw [if_pos ⟨rfl, by omega⟩] at h4
    omega
theorem OB_wo (hn : 1 ≤ n ∧ n ≤ 7) (hC : bC (tC m h) n) (h2 : n ≠ 1) {r c : Int} (hr : 0 ≤ r ∧ r < n) (hc : 0 ≤ c ∧ c < n) :
    (∀ σ ∈ pmN n.toNat, σ.getD r.toNat 0 ≠ c.toNat → woF (fun k => LW n m h (7 * r + k)) c n.toNat ≤ ps (tC m h) 0 σ) ∧ ∃ σ ∈ pmN n.toNat, σ.getD r.toNat 0 ≠ c.toNat ∧ woF (fun k => LW n m h (7 * r + k)) c n.toNat = ps (tC m h) 0 σ := by
  obtain ⟨w1, w2⟩ := woF_word (f := fun k => LW n m h (7 * r + k)) (c := c) n.toNat
  have h1 : ∀ σ ∈ pmN n.toNat, σ.getD r.toNat 0 ≠ c.toNat → woF (fun k => LW n m h (7 * r + k)) c n.toNat ≤ ps (tC m h) 0 σ := fun σ hσ hg => by
    have h3 := pm_get hσ (k := r.toNat) (by omega)
    have h4 := w1 (σ.getD r.toNat 0 : Nat) (by omega) (by omega) (by omega)
    have h5 := (OB_wth hn hC hr (c := (σ.getD r.toNat 0 : Nat)) ⟨by omega, by omega⟩).1 σ hσ (by omega)
    (try dsimp only at h4)
    omega
  refine ⟨h1, ?_⟩
  rcases w2 with e | ⟨k, k0, k1, k2, k3⟩
  · have : ∃ c' : Int, 0 ≤ c' ∧ c' < n ∧ c' ≠ c := by
      by_cases hc0 : c = 0
      · exact ⟨1, by omega, by omega, by omega⟩
      · exact ⟨0, by omega, by omega, by omega⟩
    obtain ⟨c', d0, d1, d2⟩ := this
    obtain ⟨σ, s1, s2⟩ := put_mem (n := n.toNat) (r := r.toNat) (c := c'.toNat) (by omega) (by omega)
    have h3 := h1 σ s1 (by omega)
    have h4 := (OB_b hn hC σ s1).1
    omega
  · obtain ⟨-, σ, s1, s2, s3⟩ := OB_wth hn hC hr (c := k) ⟨k0, by omega⟩
    exact ⟨σ, s1, by omega, by rw [k3]; exact s3⟩
theorem OB_without (hn : 1 ≤ n ∧ n ≤ 7) (hC : bC (tC m h) n) (h2 : n ≠ 1) {r c : Int} (hr : 0 ≤ r ∧ r < n) (hc : 0 ≤ c ∧ c < n) (H : MN' n.toNat (fun i j => if i = r ∧ j = c then 10000 else tC m h i j) z) : woF (fun k => LW n m h (7 * r + k)) c n.toNat = z := by
  obtain ⟨w1, σ, s1, s2, s3⟩ := OB_wo hn hC h2 hr hc
  have hnn : ∀ i j : Int, 0 ≤ i → i < n.toNat → 0 ≤ j → j < n.toNat → 0 ≤ (fun i j => if i = r ∧ j = c then (10000 : Int) else tC m h i j) i j := fun i j i0 i1 j0 j1 => by
    have := hC i j i0 (by omega) j0 (by omega)
    (try dsimp only)
    split <;> omega
  have heq : ∀ τ ∈ pmN n.toNat, τ.getD r.toNat 0 ≠ c.toNat → ps (fun i j => if i = r ∧ j = c then (10000 : Int) else tC m h i j) 0 τ = ps (tC m h) 0 τ := fun τ hτ hg => by
    rw [ps_pm hτ, ps_pm hτ]
    refine sm_cg (fun k k0 k1 => ?_)
    (try dsimp only)
    rw [if_neg (fun z => hg (by rw [← z.1]; omega))]
  have h1 := H.1 σ s1
  rw [heq σ s1 s2, ← s3] at h1
  obtain ⟨τ, t1, t2⟩ := H.2
  have h3 := (OB_b hn hC σ s1).1
  by_cases hg : τ.getD r.toNat 0 = c.toNat
  · have h4 := ps_pt t1 hnn hr.1 (by omega)
    (try dsimp only at h4)
    rw [if_pos ⟨rfl, by omega⟩] at h4
    omega
  · rw [heq τ t1 hg] at t2
    have := w1 τ t1 hg
    omega
/-- the second one, as the component finds it -/
theorem OB_second (hn : 1 ≤ n ∧ n ≤ 7) (hC : bC (tC m h) n) (h2 : n ≠ 1) {b : Int} (hb : b ≤ 10000) (hle : ∀ i : Int, 0 ≤ i → i < n → b ≤ woF (fun k => LW n m h (7 * i + k)) ((LK n m h).2.2.2.2.2.getD i.toNat 0 : Nat) n.toNat)
    (hat : b = 10000 ∨ ∃ i : Int, 0 ≤ i ∧ i < n ∧ b = woF (fun k => LW n m h (7 * i + k)) ((LK n m h).2.2.2.2.2.getD i.toNat 0 : Nat) n.toNat) : (LK n m h).2.2.1 = b := by
  have hn2 : 2 ≤ n.toNat := by omega
  obtain ⟨⟨l1, l2, e1, e2, e3, e4, e5, e6⟩, -⟩ := OB_lk hn hC
  have hm := (OB_mn hn hC).2
  have hnd := pmN_nd (n := n.toNat) (by omega)
  have hfc : ∀ i : Int, 0 ≤ i → i < n → 0 ≤ (((LK n m h).2.2.2.2.2.getD i.toNat 0 : Nat) : Int) ∧ (((LK n m h).2.2.2.2.2.getD i.toNat 0 : Nat) : Int) < n := fun i i0 i1 => by
    have := pm_get hm (k := i.toNat) (by omega)
    omega
  have hin : ∀ τ ∈ pmN n.toNat, τ ≠ (LK n m h).2.2.2.2.2 → (τ ∈ l1 ∨ τ ∈ l2) := fun τ hτ hne => by
    rw [e1] at hτ
    rcases List.mem_append.mp hτ with z | z
    · exact Or.inl z
    · rcases List.mem_cons.mp z with z | z
      · exact absurd z hne
      · exact Or.inr z
  have hmem : ∀ τ, (τ ∈ l1 ∨ τ ∈ l2) → τ ∈ pmN n.toNat := fun τ hτ => by
    rw [e1]
    rcases hτ with z | z
    · exact List.mem_append.mpr (Or.inl z)
    · exact List.mem_append.mpr (Or.inr (List.mem_cons_of_mem _ z))
  have hne : ∀ τ, (τ ∈ l1 ∨ τ ∈ l2) → τ ≠ (LK n m h).2.2.2.2.2 := fun τ hτ e => by
    rw [e1] at hnd
    obtain ⟨-, n2, n3⟩ := List.nodup_append.mp hnd
    rcases hτ with z | z
    · exact n3 _ z _ List.mem_cons_self e
    · rw [e] at z; exact (List.nodup_cons.mp n2).1 z
  have hdif : ∀ τ, (τ ∈ l1 ∨ τ ∈ l2) → ∃ i : Int, 0 ≤ i ∧ i < n ∧ τ.getD i.toNat 0 ≠ (LK n m h).2.2.2.2.2.getD i.toNat 0 := fun τ hτ => by
    apply Classical.byContradiction
    intro hno
    refine hne τ hτ (List.ext_getElem ?_ (fun k k1 k2 => ?_))
    · rw [(pmN_mem.mp (hmem τ hτ)).1, (pmN_mem.mp hm).1]
    · have hk : k < n.toNat := by rw [← (pmN_mem.mp hm).1]; exact k2
      apply Classical.byContradiction
      intro hd
      refine hno ⟨k, by clear e6 hat; omega, by clear e6 hat; omega, ?_⟩
      rw [Int.toNat_natCast, List.getD_eq_getElem?_getD, List.getD_eq_getElem?_getD, List.getElem?_eq_getElem k1, List.getElem?_eq_getElem k2]
      exact hd
  have hup : ∀ τ, (τ ∈ l1 ∨ τ ∈ l2) → b ≤ ps (tC m h) 0 τ := fun τ hτ => by
    obtain ⟨i, i0, i1, hd⟩ := hdif τ hτ
    have h3 := (OB_wo hn hC h2 (r := i) ⟨i0, i1⟩ (hfc i i0 i1)).1 τ (hmem τ hτ) (by rw [Int.toNat_natCast]; exact hd)
    have h4 := hle i i0 i1
    omega
  obtain ⟨ρ, r1, r2⟩ : ∃ ρ ∈ pmN n.toNat, ρ ≠ (LK n m h).2.2.2.2.2 := by
    have hlen := (pmN_mem.mp hm).1
    have i0 : 0 < n.toNat := Nat.lt_of_lt_of_le (by decide) hn2
    have i1 : 1 < n.toNat := Nat.lt_of_lt_of_le (by decide) hn2
    refine ⟨sw (LK n m h).2.2.2.2.2 0 1, sw_mem hm i0 i1, fun e => ?_⟩
    have h3 := congrArg (fun l => l.getD 0 0) e
    (try dsimp only at h3)
    rw [sw_get (by rw [hlen]; exact i0) (by rw [hlen]; exact i1), if_neg (by decide), if_pos rfl] at h3
    exact absurd (nd_inj (pmN_mem.mp hm).2.1 (i := 1) (j := 0) (by rw [hlen]; exact i1) (by rw [hlen]; exact i0) h3) (by decide)
  have hs : (LK n m h).2.2.1 ≤ 7000 := by
    have h3 := e5 ρ (hin ρ r1 r2)
    have := (OB_b hn hC ρ r1).1
    omega
  have h5 : b ≤ (LK n m h).2.2.1 := by
    rcases e6 with ⟨z1, z2, z3⟩ | ⟨τ, t1, t2⟩
    · omega
    · rw [t2]; exact hup τ t1
  have h6 : (LK n m h).2.2.1 ≤ b := by
    rcases hat with z | ⟨i, i0, i1, z⟩
    · omega
    · obtain ⟨-, τ, t1, t2, t3⟩ := OB_wo hn hC h2 (r := i) ⟨i0, i1⟩ (hfc i i0 i1)
      rw [z, t3]
      refine e5 τ (hin τ t1 (fun e => t2 ?_))
      rw [e, Int.toNat_natCast]
  omega
theorem OB_max (hn : 1 ≤ n ∧ n ≤ 7) (hC : bC (tC m h) n) (hv : ∀ i j : Int, 0 ≤ i → i < n → 0 ≤ j → j < n → tC m h i j ≤ 99 ∨ tC m h i j = 1000) (H : MN' n.toNat (fun i j => if tC m h i j = 1000 then 10000 else 99 - tC m h i j) z) : (LK n m h).2.2.2.1 = if 10000 ≤ z then -1 else 99 * n - z := by
  have en : ((n.toNat : Nat) : Int) = n := Int.toNat_of_nonneg (by omega)
  have hnn : ∀ i j : Int, 0 ≤ i → i < n.toNat → 0 ≤ j → j < n.toNat → 0 ≤ (fun i j => if tC m h i j = 1000 then (10000 : Int) else 99 - tC m h i j) i j := fun i j i0 i1 j0 j1 => by
    have := hv i j i0 (by omega) j0 (by omega)
    (try dsimp only)
    split <;> omega
  have hnnC : ∀ i j : Int, 0 ≤ i → i < n.toNat → 0 ≤ j → j < n.toNat → 0 ≤ tC m h i j := fun i j i0 i1 j0 j1 => (hC i j i0 (by omega) j0 (by omega)).1
  have cases : ∀ τ ∈ pmN n.toNat, (ps (fun i j => if tC m h i j = 1000 then (10000 : Int) else 99 - tC m h i j) 0 τ = 99 * n - ps (tC m h) 0 τ ∧ ps (tC m h) 0 τ ≤ 693) ∨ (10000 ≤ ps (fun i j => if tC m h i j = 1000 then (10000 : Int) else 99 - tC m h i j) 0 τ ∧ 1000 ≤ ps (tC m h) 0 τ) := fun τ hτ => by
    by_cases hall : ∀ k : Int, 0 ≤ k → k < n → tC m h k (τ.getD k.toNat 0 : Nat) ≤ 99
    · left
      rw [ps_pm hτ, ps_pm hτ]
      constructor
      · rw [sm_cg (g := fun k => 99 + - tC m h k (τ.getD k.toNat 0 : Nat)) (fun k k0 k1 => by
          have := hall k k0 (by omega)
          (try dsimp only)
          rw [if_neg (by omega)]; omega), sm_add, sm_k, sm_neg, en]
        omega
      · have := (sm_b (k := n.toNat) (f := fun k => tC m h k (τ.getD k.toNat 0 : Nat)) (B := 99) (fun k k0 k1 => ⟨hnnC k _ k0 k1 (by omega) (by have := pm_get hτ (k := k.toNat) (by omega); omega), hall k k0 (by omega)⟩)).2
        rw [en] at this
        omega
    · right
      have : ∃ k : Int, 0 ≤ k ∧ k < n ∧ ¬ tC m h k (τ.getD k.toNat 0 : Nat) ≤ 99 := by
        apply Classical.byContradiction
        intro hno
        exact hall (fun k k0 k1 => Classical.byContradiction (fun hk => hno ⟨k, k0, k1, hk⟩))
      obtain ⟨k, k0, k1, hk⟩ := this
      have hg := pm_get hτ (k := k.toNat) (by omega)
      have h1 := hv k (τ.getD k.toNat 0 : Nat) k0 k1 (by omega) (by omega)
      have h2 := ps_pt hτ hnn k0 (by omega)
      have h3 := ps_pt hτ hnnC k0 (by omega)
      (try dsimp only at h2)
      rw [if_pos (by omega)] at h2
      omega
  obtain ⟨g1, g2⟩ := lkF_most (C := tC m h) (pmN n.toNat)
  obtain ⟨τ, t1, t2⟩ := H.2
  have ht := cases τ t1
  have hp := (OB_b hn hC τ t1).1
  unfold LK
  by_cases hz : 10000 ≤ z
  · rw [if_pos hz]
    rcases g2 with e | ⟨σ, s1, s2, s3⟩
    · exact e
    · exfalso
      have h1 := cases σ s1
      have h2 := H.1 σ s1
      have h3 := (OB_b hn hC σ s1).1
      omega
  · rw [if_neg hz]
    have h1 : z = 99 * n - ps (tC m h) 0 τ ∧ ps (tC m h) 0 τ ≤ 693 := by omega
    have h2 := g1 τ t1 (by omega)
    rcases g2 with e | ⟨σ, s1, s2, s3⟩
    · omega
    · have h3 := cases σ s1
      have h4 := H.1 σ s1
      omega
/-- there is an assignment within a limit -/
def MT' (n : Nat) (C : Int → Int → Int) (L : Int) : Prop := ∃ σ ∈ pmN n, pA (fun i j => C i j ≤ L) 0 σ
theorem OB_fit (hn : 1 ≤ n ∧ n ≤ 7) {L : Int} (hL : 0 ≤ L ∧ L < 1000000) : (LK n m h).2.2.2.2.1 ≤ L ↔ MT' n.toNat (tC m h) L := by
  obtain ⟨g1, g2⟩ := lkF_narrow (C := tC m h) (pmN n.toNat)
  constructor
  · intro hl
    rcases g2 with e | ⟨σ, s1, s2⟩
    · unfold LK at hl; omega
    · exact ⟨σ, s1, (pd_le.mp (by unfold LK at hl; rw [s2] at hl; exact hl)).2⟩
  · rintro ⟨σ, s1, s2⟩
    have h1 := g1 σ s1
    have h2 := (pd_le (C := tC m h) (σ := σ) (i := 0) (a := 0) (L := L)).mpr ⟨hL.1, s2⟩
    unfold LK; omega
theorem OB_nar (hn : 1 ≤ n ∧ n ≤ 7) (hC : bC (tC m h) n) (hv : ∀ i j : Int, 0 ≤ i → i < n → 0 ≤ j → j < n → tC m h i j ≤ 99 ∨ tC m h i j = 1000) : 0 ≤ (LK n m h).2.2.2.2.1 ∧ ((LK n m h).2.2.2.2.1 ≤ 99 ∨ (LK n m h).2.2.2.2.1 = 1000) := by
  obtain ⟨g1, g2⟩ := lkF_narrow (C := tC m h) (pmN n.toNat)
  have hm := (OB_mn hn hC).2
  have h1 := g1 _ hm
  have h2 := (OB_b hn hC _ hm).2
  rcases g2 with e | ⟨σ, s1, s2⟩
  · omega
  · have h3 : pd (tC m h) 0 σ 0 ≤ 99 ∨ pd (tC m h) 0 σ 0 = 1000 := pd_is (Z := fun x => x ≤ 99 ∨ x = 1000) (by simp) (pA_pm s1 (fun i j i0 i1 j0 j1 => hv i j i0 (by omega) j0 (by omega)))
    have h4 := (OB_b hn hC σ s1).2
    unfold LK
    omega
theorem OB_ctw (hn : 1 ≤ n ∧ n ≤ 7) (hC : bC (tC m h) n) {a : Int} (ha : 0 ≤ a) : ctW (tC m h) a (pmN n.toNat) = cW n.toNat (tC m h) n.toNat 0 a := by
  rw [cW_cnt (fun i j i0 i1 j0 j1 => (hC i j i0 (by omega) j0 (by omega)).1) _ _ _ (Nat.le_refl _) ha, ← pmN_M (by omega), Int.sub_self]
  unfold ctW
  have h1 : ∀ (l : List (List Nat)) (x : Int), l.foldl (fun s σ => s + if ps (tC m h) 0 σ ≤ a then 1 else 0) x = x + ((l.countP (fun τ => decide (ps (tC m h) 0 τ ≤ a)) : Nat) : Int) := by
    intro l
    induction l with
    | nil => intro x; simp
    | cons τ l ih =>
      intro x
      rw [List.foldl_cons, ih, List.countP_cons]
      by_cases hc : ps (tC m h) 0 τ ≤ a
      · simp only [hc, if_true, decide_true]; omega
      · simp only [hc, if_false, decide_false]; simp
  rw [h1]; omega
theorem OB_best (hn : 1 ≤ n ∧ n ≤ 7) (hC : bC (tC m h) n) : (if LW n m h 0 < woF (fun k => LW n m h (7 * 0 + k)) 0 n.toNat then LW n m h 0 else woF (fun k => LW n m h (7 * 0 + k)) 0 n.toNat) = (LK n m h).1 := by
  obtain ⟨w1, σ, s1, s2, s3⟩ := OB_wth hn hC (r := 0) (c := 0) ⟨by omega, by omega⟩ ⟨by omega, by omega⟩
  rw [show (7 : Int) * 0 + 0 = 0 by omega] at w1 s3
  obtain ⟨⟨k1, τ, t1, t2⟩, -⟩ := OB_mn hn hC
  have h1 := k1 σ s1
  have hb := (OB_b hn hC σ s1).1
  have h3 : LW n m h 0 = ps (tC m h) 0 σ := s3
  by_cases h2 : n = 1
  · have hw : woF (fun k => LW n m h (7 * 0 + k)) 0 n.toNat = 1000000 := by
      rcases (woF_word (f := fun k => LW n m h (7 * 0 + k)) (c := 0) n.toNat).2 with e | ⟨i, i0, i1, i2, -⟩
      · exact e
      · omega
    rw [hw]
    have hg : τ.getD (0 : Int).toNat 0 = (0 : Int).toNat := by
      have := pm_get t1 (k := 0) (by omega)
      show τ.getD 0 0 = 0
      omega
    have h4 := w1 τ t1 hg
    rw [if_pos (by omega)]
    omega
  · obtain ⟨v1, ρ, r1, r2, r3⟩ := OB_wo hn hC h2 (r := 0) (c := 0) ⟨by omega, by omega⟩ ⟨by omega, by omega⟩
    have h5 := k1 ρ r1
    by_cases hg : τ.getD (0 : Int).toNat 0 = (0 : Int).toNat
    · have := w1 τ t1 hg
      split <;> omega
    · have := v1 τ t1 hg
      split <;> omega
end OB
theorem tC_v {m : Int} {h : Int → Int → Int} {i j : Int} (hh : -100 ≤ h i j ∧ h i j ≤ 99) : tC m h i j ≤ 99 ∨ tC m h i j = 1000 := by
  unfold tC; repeat' split
  all_goals omega
