/-! THE ENUMERATION: one part goes on; the next sum is told -/
set_option maxRecDepth 100000
set_option maxHeartbeats 4000000
def ENL (E : Ev) (xo b n : Int) (C : Int → Int → Int) (e : En) (L : List Int) (w : Wd) : Prop :=
  PQ E w (b + 21) (b + 22) L.length (fun r => r ∈ L) (rkP w) ∧ L.Nodup ∧ capP (lnw w (rdw w (b + 21) 0)) ∧
  (∀ i j : Int, 0 ≤ i → i < n → 0 ≤ j → j < n → 0 ≤ rdw w (b + 25 + i) j ∧ rdw w (b + 25 + i) j ≤ 100000) ∧
  (∀ σ ∈ pmN n.toNat, ps C 0 σ = ps (fun i j => rdw w (b + 25 + i) j) 0 σ + rdw w xo 22) ∧
  (∀ r ∈ L, ∃ π, PP w b n.toNat r π) ∧
  (∀ t : Nat, t < (pmN n.toNat).length → ((e.ls < ps C 0 ((pmN n.toNat).getD t []) ∨ (ps C 0 ((pmN n.toNat).getD t []) = e.ls ∧ e.lp < t)) ↔ ∃ r ∈ L, ∃ π, PP w b n.toNat r π ∧ π <+: (pmN n.toNat).getD t [])) ∧
  (∀ r ∈ L, ∀ r' ∈ L, ∀ π π' σ, PP w b n.toNat r π → PP w b n.toNat r' π' → π <+: σ → π' <+: σ → r = r') ∧
  wtL w n.toNat L ≤ 1957 ∧
  e.k = (((List.range (pmN n.toNat).length).countP (fun t => decide (¬ (e.ls < ps C 0 ((pmN n.toNat).getD t []) ∨ (ps C 0 ((pmN n.toNat).getD t []) = e.ls ∧ e.lp < t)))) : Nat) : Int) ∧
  (1 ≤ e.k → ∃ τ ∈ pmN n.toNat, rdw w xo 25 = cd 0 τ ∧ ∀ i : Int, 0 ≤ i → i < n → e.cu i = (τ.getD i.toNat 0 : Nat))
theorem ENUM_L {E : Ev} {xo b n : Int} {C : Int → Int → Int} {e : En} {w : Wd} : ENUM E xo b n C e w ↔ (1 ≤ n ∧ n ≤ 6) ∧ ∃ L, ENL E xo b n C e L w := Iff.rfl
/-- writes of the queue of parts, and of steps and the last code -/
def ZN (E : Ev) (xo b : Int) (w : Wd) (a i : Int) : Prop := (a = xo ∧ (i = 24 ∨ i = 25)) ∨ a = b + 21 ∨ (kdw w a = pk b ∧ (eB E : Int) ≤ a)
section EN2
variable {E : Ev} {xo b n p : Int} {C : Int → Int → Int} {e : En} {w u u3 : Wd} {L Ch : List Int} {π : List Nat}
theorem ZN.no (hX : XI E xo b u) {k : Int} (hk : 0 ≤ k ∧ k ≤ 31) (h21 : k ≠ 21 ∧ k ≠ 23) (i : Int) : ¬ ZN E xo b u (b + k) i := by
  have hxb := hX.1.2.1
  have hb := hX.b0
  rintro (z | z | z)
  · omega
  · omega
  · have h1 := z.1
    rw [hX.2.1 k hk.1 hk.2] at h1
    unfold xK qk pk at h1
    (repeat' split at h1) <;> omega
theorem ZN.n4 (hX : XI E xo b u) {a i : Int} (ha : kdw u a = 4) : ¬ ZN E xo b u a i := by
  rintro (z | z | z)
  · rw [z.1, hX.hk] at ha; omega
  · rw [z, hX.kk 21 (by omega) (c := 9) rfl] at ha; omega
  · rw [ha] at z; unfold pk at z; omega
theorem ZN.rd (hX : XI E xo b u) (hG : Gr (ZN E xo b u) u u3) {i : Int} (i0 : 0 ≤ i) (i1 : i < 7) (j : Int) : rdw u3 (b + 25 + i) j = rdw u (b + 25 + i) j := by
  have h := ZN.no hX (k := 25 + i) (by omega) (by omega) j
  rw [show b + (25 + i) = b + 25 + i by omega] at h
  refine hG.rd ?_ h
  rw [show b + 25 + i = b + (25 + i) by omega, hX.2.1 (25 + i) (by omega) (by omega)]
  exact xK_ne _ _
theorem ZN.pp (hX : XI E xo b u) (hG : Gr (ZN E xo b u) u u3) (hn : n.toNat ≤ 7) {r : Int} : PP u b n.toNat r π → PP u3 b n.toNat r π := fun H =>
  H.gr hG hn (fun a i ha => ZN.n4 hX ha) (fun k i k0 k1 => by
    rw [show b + 25 + k = b + (25 + k) by omega]
    exact ⟨by rw [hX.2.1 (25 + k) (by omega) (by omega)]; exact xK_ne _ _, ZN.no hX (by omega) (by omega) i⟩)
theorem ZN.pb (hX : XI E xo b u) (hG : Gr (ZN E xo b u) u u3) (hn : n.toNat ≤ 7) {r : Int} (hr : PV4 u r) : PP u3 b n.toNat r π → PP u b n.toNat r π := fun H =>
  H.back hG hr hn (fun a i ha => ZN.n4 hX ha) (fun k i k0 k1 => by
    rw [show b + 25 + k = b + (25 + k) by omega]
    exact ⟨by rw [hX.2.1 (25 + k) (by omega) (by omega)]; exact xK_ne _ _, ZN.no hX (by omega) (by omega) i⟩)
theorem ENL.expand (hX : XI E xo b u) (hn : 1 ≤ n ∧ n ≤ 6) (H : ENL E xo b n C e L u) (hp : p ∈ L) (hP : PP u b n.toNat p π) (hl : (π.length : Int) < n) (hG : Gr (ZN E xo b u) u u3)
    (hQ3 : PQ E u3 (b + 21) (b + 22) (Ch ++ L.erase p).length (fun r => r ∈ Ch ++ L.erase p) (rkP u3)) (hnd : (Ch ++ L.erase p).Nodup) (hcap : capP (lnw u3 (rdw u3 (b + 21) 0)))
    (hc1 : ∀ r ∈ Ch, ∃ j, j < n.toNat ∧ j ∉ π ∧ PP u3 b n.toNat r (π ++ [j])) (hc2 : ∀ j, j < n.toNat → j ∉ π → ∃ r ∈ Ch, PP u3 b n.toNat r (π ++ [j])) (hc3 : ∀ r ∈ Ch, ∀ r' ∈ Ch, ∀ j, PP u3 b n.toNat r (π ++ [j]) → PP u3 b n.toNat r' (π ++ [j]) → r = r')
    (hlen : (Ch.length : Int) = n - π.length) (h22 : rdw u3 xo 22 = rdw u xo 22) (h25 : rdw u3 xo 25 = rdw u xo 25) :
    ENL E xo b n C e (Ch ++ L.erase p) u3 ∧ wtL u3 n.toNat (Ch ++ L.erase p) + 1 = wtL u n.toNat L := by
  obtain ⟨hQ, nd, hc, r1, r2, pp, cv, un, wt, ct, lc⟩ := H
  have hn7 : n.toNat ≤ 7 := by omega
  have er : ∀ r, r ∈ L.erase p ↔ r ≠ p ∧ r ∈ L := fun r => List.Nodup.mem_erase_iff nd
  have hpv : ∀ r ∈ L, PV4 u r := fun r hr => by obtain ⟨π', h⟩ := pp r hr; exact h.1
  have hpf : ∀ r ∈ L, ∀ π', PP u3 b n.toNat r π' ↔ PP u b n.toNat r π' := fun r hr π' => ⟨ZN.pb hX hG hn7 (hpv r hr), ZN.pp hX hG hn7⟩
  have hrd : ∀ r ∈ L, rdw u3 r 1 = rdw u r 1 := fun r hr => ((hpv r hr).gr hG (fun i => ZN.n4 hX (hpv r hr).1.2)).2.2 1
  have hcr : ∀ r ∈ Ch, rdw u3 r 1 = ((π.length + 1 : Nat) : Int) := fun r hr => by
    obtain ⟨j, -, -, h⟩ := hc1 r hr
    rw [h.2.1.1, List.length_append]; rfl
  have hpr := hP.2.1.1
  have hwt : wtL u3 n.toNat (Ch ++ L.erase p) + 1 = wtL u n.toNat L := by
    rw [wtL_app, wtL_all hcr, wtL_cg (w := u) (fun r hr => hrd r ((er r).mp hr).2), wtL_er hp, hpr, Int.toNat_natCast]
    have e1 : n.toNat - π.length = (n.toNat - (π.length + 1)) + 1 := by omega
    rw [e1]
    show _ = _ + (1 + (n.toNat - (π.length + 1) + 1) * wtN (n.toNat - (π.length + 1)))
    rw [show Ch.length = n.toNat - (π.length + 1) + 1 by omega]
    omega
  refine ⟨⟨hQ3, hnd, hcap, fun i j i0 i1 j0 j1 => by rw [ZN.rd hX hG i0 (by omega)]; exact r1 i j i0 i1 j0 j1, fun σ hσ => ?_, fun r hr => ?_, fun t ht => ?_, fun r hr r' hr' π1 π2 σ a1 a2 a3 a4 => ?_, by omega, ct, fun hk => ?_⟩, hwt⟩
  · rw [h22, r2 σ hσ]
    congr 1
    exact ps_cgp hσ (fun i j i0 i1 j0 j1 => (ZN.rd hX hG i0 (by omega) j).symm)
  · rcases List.mem_append.mp hr with z | z
    · obtain ⟨j, -, -, h⟩ := hc1 r z
      exact ⟨_, h⟩
    · obtain ⟨π', h⟩ := pp r ((er r).mp z).2
      exact ⟨π', (hpf r ((er r).mp z).2 π').mpr h⟩
  · have hσ : (pmN n.toNat).getD t [] ∈ pmN n.toNat := by
      rw [List.getD_eq_getElem?_getD, List.getElem?_eq_getElem ht]; exact List.getElem_mem _
    rw [cv t ht]
    constructor
    · rintro ⟨r, hr, π', h1, h2⟩
      by_cases z : r = p
      · rw [z] at h1
        rw [h1.det hn7 hP] at h2
        obtain ⟨j, j1, j2, j3⟩ := pre_go hσ (by omega) h2
        obtain ⟨r', hr', h3⟩ := hc2 j j1 j2
        exact ⟨r', List.mem_append_left _ hr', _, h3, j3⟩
      · exact ⟨r, List.mem_append_right _ ((er r).mpr ⟨z, hr⟩), π', (hpf r hr π').mpr h1, h2⟩
    · rintro ⟨r, hr, π', h1, h2⟩
      rcases List.mem_append.mp hr with z | z
      · obtain ⟨j, -, -, h3⟩ := hc1 r z
        rw [h1.det hn7 h3] at h2
        exact ⟨p, hp, π, hP, pre_back h2⟩
      · have hrL := ((er r).mp z).2
        exact ⟨r, hrL, π', (hpf r hrL π').mp h1, h2⟩
  · -- one part stands for a permutation
    have key : ∀ r ∈ Ch, ∀ r' ∈ L.erase p, ∀ π1 π2, PP u3 b n.toNat r π1 → PP u3 b n.toNat r' π2 → π1 <+: σ → π2 <+: σ → False := fun r hr r' hr' π1 π2 a1 a2 a3 a4 => by
      obtain ⟨j, -, -, h3⟩ := hc1 r hr
      rw [a1.det hn7 h3] at a3
      have z := (er r').mp hr'
      exact z.1 (un r' z.2 p hp π2 π σ ((hpf r' z.2 π2).mp a2) hP a4 (pre_back a3))
    rcases List.mem_append.mp hr with z | z
    · rcases List.mem_append.mp hr' with z' | z'
      · obtain ⟨j, -, -, h3⟩ := hc1 r z
        obtain ⟨j', -, -, h4⟩ := hc1 r' z'
        have e1 := a1.det hn7 h3
        have e2 := a2.det hn7 h4
        have e3 : π1 = π2 := pre_eq a3 a4 (by rw [e1, e2, List.length_append, List.length_append]; rfl)
        rw [← e3, e1] at a2
        rw [e1] at a1
        exact hc3 r z r' z' j a1 a2
      · exact (key r z r' z' π1 π2 a1 a2 a3 a4).elim
    · rcases List.mem_append.mp hr' with z' | z'
      · exact (key r' z' r z π2 π1 a2 a1 a4 a3).elim
      · have h1 := ((er r).mp z).2
        have h2 := ((er r').mp z').2
        exact un r h1 r' h2 π1 π2 σ ((hpf r h1 π1).mp a1) ((hpf r' h2 π2).mp a2) a3 a4
  · rw [h25]; exact lc hk
theorem ps_pre {R : Int → Int → Int} {N : Nat} {σ : List Nat} (hσ : σ ∈ pmN N) (hR : ∀ i j : Int, 0 ≤ i → i < N → 0 ≤ j → j < N → 0 ≤ R i j) (h : π <+: σ) : ps R 0 π ≤ ps R 0 σ := by
  obtain ⟨t, ht⟩ := h
  have hm := pmN_mem.mp hσ
  have hle : π.length ≤ N := by rw [← hm.1, ← ht, List.length_append]; omega
  rw [ps_pm hσ, ps_sm]
  have e1 : sm' π.length (fun k => R (0 + k) (π.getD k.toNat 0 : Nat)) = sm' π.length (fun k => R k (σ.getD k.toNat 0 : Nat)) := sm_cg (fun k k0 k1 => by
    rw [Int.zero_add, ← ht, List.getD_eq_getElem?_getD, List.getD_eq_getElem?_getD, List.getElem?_append_left (by omega)])
  rw [e1]
  refine sm_up hle (fun k k0 k1 => hR k _ k0 k1 (by omega) ?_)
  have := pm_get hσ (k := k.toNat) (by omega)
  omega
theorem ENL.next (hX : XI E xo b u) (hn : 1 ≤ n ∧ n ≤ 6) (H : ENL E xo b n C e L u) (hC : bC C n) (hp : p ∈ L) (hmin : ∀ r ∈ L, rkP u p ≤ rkP u r) (hP : PP u b n.toNat p π) (hl : (π.length : Int) = n) (hG : Gr (ZN E xo b u) u u3)
    (hQ3 : PQ E u3 (b + 21) (b + 22) (L.erase p).length (fun r => r ∈ L.erase p) (rkP u3)) (hcap : capP (lnw u3 (rdw u3 (b + 21) 0))) (h22 : rdw u3 xo 22 = rdw u xo 22) (h25 : rdw u3 xo 25 = rdw u p 2) :
    rdw u xo 22 + rdw u p 0 = (nxP C e.ls e.lp (pmN n.toNat) (pmN n.toNat).length).1 ∧ e.k < (pmN n.toNat).length ∧ ENL E xo b n C (nxE e (nxP C e.ls e.lp (pmN n.toNat) (pmN n.toNat).length)) (L.erase p) u3 := by
  obtain ⟨hQ, nd, hc, r1, r2, pp, cv, un, wt, ct, lc⟩ := H
  have hn7 : n.toNat ≤ 7 := by omega
  have er : ∀ r, r ∈ L.erase p ↔ r ≠ p ∧ r ∈ L := fun r => List.Nodup.mem_erase_iff nd
  have hpv : ∀ r ∈ L, PV4 u r := fun r hr => by obtain ⟨π', h⟩ := pp r hr; exact h.1
  have hpf : ∀ r ∈ L, ∀ π', PP u3 b n.toNat r π' ↔ PP u b n.toNat r π' := fun r hr π' => ⟨ZN.pb hX hG hn7 (hpv r hr), ZN.pp hX hG hn7⟩
  have hrd : ∀ r ∈ L, rdw u3 r 1 = rdw u r 1 := fun r hr => ((hpv r hr).gr hG (fun i => ZN.n4 hX (hpv r hr).1.2)).2.2 1
  obtain ⟨hpv4, ⟨q1, q2, q3, q4⟩, q5, q6, q7⟩ := id hP
  have hπ : π ∈ pmN n.toNat := pmN_mem.mpr ⟨by omega, q3, q4⟩
  obtain ⟨t0, ht0, he0⟩ := List.getElem_of_mem hπ
  have hg0 : (pmN n.toNat).getD t0 [] = π := by rw [List.getD_eq_getElem?_getD, List.getElem?_eq_getElem ht0]; exact he0
  have hbd := pm_bnd (n := n.toNat) (C := C) (by omega) (by rw [Int.toNat_of_nonneg (by omega)]; exact hC)
  have hmem : ∀ t, t < (pmN n.toNat).length → (pmN n.toNat).getD t [] ∈ pmN n.toNat := fun t ht => by
    rw [List.getD_eq_getElem?_getD, List.getElem?_eq_getElem ht]; exact List.getElem_mem _
  have hq0 : Qlt C e.ls e.lp (pmN n.toNat) t0 := (cv t0 ht0).mpr ⟨p, hp, π, hP, by rw [hg0]; exact List.prefix_refl _⟩
  have hR0 : ∀ i j : Int, 0 ≤ i → i < n.toNat → 0 ≤ j → j < n.toNat → 0 ≤ (fun i j => rdw u (b + 25 + i) j) i j := fun i j i0 i1 j0 j1 => (r1 i j i0 (by omega) j0 (by omega)).1
  have hle : ∀ t, t < (pmN n.toNat).length → Qlt C e.ls e.lp (pmN n.toNat) t → ps C 0 ((pmN n.toNat).getD t0 []) < ps C 0 ((pmN n.toNat).getD t []) ∨ (ps C 0 ((pmN n.toNat).getD t []) = ps C 0 ((pmN n.toNat).getD t0 []) ∧ t0 ≤ t) := fun t ht hq => by
    obtain ⟨r, hr, π', h1, h2⟩ := (cv t ht).mp hq
    have hm := hmin r hr
    obtain ⟨v1, ⟨s1, s2, s3, s4⟩, s5, s6, s7⟩ := id h1
    have h3 := ps_pre (hmem t ht) hR0 h2
    rw [r2 _ (hmem t ht), r2 _ (hmem t0 ht0), hg0]
    unfold rkP at hm
    obtain ⟨-, b1, b2, b3, -⟩ := hpv4
    obtain ⟨-, c1, c2, c3, -⟩ := v1
    rw [← s5] at h3
    rw [← q5]
    by_cases z : rdw u p 0 < ps (fun i j => rdw u (b + 25 + i) j) 0 ((pmN n.toNat).getD t [])
    · exact Or.inl (by omega)
    · have e1 : rdw u r 0 = rdw u p 0 := by omega
      refine Or.inr ⟨by omega, ?_⟩
      have e2 : π'.length = n.toNat := by omega
      have e3 : π' = (pmN n.toNat).getD t [] := pre_eq h2 (List.prefix_refl _) (by rw [e2, (pmN_mem.mp (hmem t ht)).1])
      have e4 : cd 0 π ≤ cd 0 ((pmN n.toNat).getD t []) := by rw [← q6, ← e3, ← s6]; omega
      refine Nat.le_of_not_lt (fun hlt => ?_)
      have := pm_lt (n := n.toNat) (by omega) ht0 hlt
      rw [hg0] at this
      omega
  have hnx := nxP_is hq0 (by have := (hbd _ (hmem t0 ht0)).1; omega) (pmN n.toNat).length ht0 hle
  rw [hnx, hg0]
  have hiff : ∀ t, t < (pmN n.toNat).length → t ≠ t0 → (Qlt C (ps C 0 π) t0 (pmN n.toNat) t ↔ Qlt C e.ls e.lp (pmN n.toNat) t) := fun t ht hne => by
    constructor
    · intro z
      unfold Qlt at z hq0 ⊢
      rw [hg0] at hq0
      omega
    · intro z
      have := hle t ht z
      rw [hg0] at this
      unfold Qlt
      omega
  have hno : ¬ Qlt C (ps C 0 π) t0 (pmN n.toNat) t0 := fun z => by
    unfold Qlt at z
    rw [hg0] at z
    omega
  have hct := cP_one (p := fun t => decide (¬ (e.ls < ps C 0 ((pmN n.toNat).getD t []) ∨ (ps C 0 ((pmN n.toNat).getD t []) = e.ls ∧ e.lp < t)))) (q := fun t => decide (¬ (ps C 0 π < ps C 0 ((pmN n.toNat).getD t []) ∨ (ps C 0 ((pmN n.toNat).getD t []) = ps C 0 π ∧ (t0 : Int) < t)))) (t0 := t0) (pmN n.toNat).length ht0 (fun t ht hne => decide_eq_decide.mpr (not_congr (hiff t ht hne))) (decide_eq_false (fun z => z hq0)) (decide_eq_true hno)
  have hcl := List.countP_le_length (p := fun t => decide (¬ (ps C 0 π < ps C 0 ((pmN n.toNat).getD t []) ∨ (ps C 0 ((pmN n.toNat).getD t []) = ps C 0 π ∧ (t0 : Int) < t)))) (l := List.range (pmN n.toNat).length)
  rw [List.length_range] at hcl
  refine ⟨by rw [r2 π hπ, ← q5]; show _ = rdw u p 0 + rdw u xo 22; omega, by omega, hQ3, nd.erase p, hcap, fun i j i0 i1 j0 j1 => by rw [ZN.rd hX hG i0 (by omega)]; exact r1 i j i0 i1 j0 j1, fun σ hσ => ?_, fun r hr => ?_, fun t ht => ?_, fun r hr r' hr' π1 π2 σ a1 a2 a3 a4 => ?_, ?_, ?_, fun _ => ⟨π, hπ, ?_, fun i i0 i1 => ?_⟩⟩
  · rw [h22, r2 σ hσ]
    congr 1
    exact ps_cgp hσ (fun i j i0 i1 j0 j1 => (ZN.rd hX hG i0 (by omega) j).symm)
  · have hrL := ((er r).mp hr).2
    obtain ⟨π', h⟩ := pp r hrL
    exact ⟨π', (hpf r hrL π').mpr h⟩
  · show Qlt C (ps C 0 π) t0 (pmN n.toNat) t ↔ _
    by_cases z : t = t0
    · rw [z]
      refine ⟨fun y => absurd y hno, ?_⟩
      rintro ⟨r, hr, π', h1, h2⟩
      have hrL := ((er r).mp hr)
      rw [hg0] at h2
      exact absurd (un r hrL.2 p hp π' π π ((hpf r hrL.2 π').mp h1) hP h2 (List.prefix_refl _)) hrL.1
    · rw [hiff t ht z]
      show (_ ∨ _) ↔ _
      rw [cv t ht]
      constructor
      · rintro ⟨r, hr, π', h1, h2⟩
        refine ⟨r, (er r).mpr ⟨fun y => ?_, hr⟩, π', (hpf r hr π').mpr h1, h2⟩
        rw [y] at h1
        rw [h1.det hn7 hP] at h2
        have e1 : π = (pmN n.toNat).getD t [] := pre_eq h2 (List.prefix_refl _) (by rw [(pmN_mem.mp (hmem t ht)).1]; omega)
        have hl1 := (pmN_mem.mp (hmem t ht))
        rcases Nat.lt_or_ge t t0 with g | g
        · have := pm_lt (n := n.toNat) (by omega) ht0 g
          rw [hg0, ← e1] at this; omega
        · have := pm_lt (n := n.toNat) (by omega) ht (show t0 < t by omega)
          rw [hg0, ← e1] at this; omega
      · rintro ⟨r, hr, π', h1, h2⟩
        have hrL := ((er r).mp hr).2
        exact ⟨r, hrL, π', (hpf r hrL π').mp h1, h2⟩
  · have h1 := ((er r).mp hr).2
    have h2 := ((er r').mp hr').2
    exact un r h1 r' h2 π1 π2 σ ((hpf r h1 π1).mp a1) ((hpf r' h2 π2).mp a2) a3 a4
  · rw [wtL_cg (w := u) (fun r hr => hrd r ((er r).mp hr).2)]
    have := wtL_er (w := u) (n := n.toNat) hp
    omega
  · show e.k + 1 = _
    rw [ct]
    show _ = (((List.range (pmN n.toNat).length).countP (fun t => decide (¬ (ps C 0 π < ps C 0 ((pmN n.toNat).getD t []) ∨ (ps C 0 ((pmN n.toNat).getD t []) = ps C 0 π ∧ (t0 : Int) < t)))) : Nat) : Int)
    rw [hct]
    omega
  · rw [h25]; exact q6
  · show cuOf e π i = _
    unfold cuOf
    rw [if_pos (by omega)]
end EN2
