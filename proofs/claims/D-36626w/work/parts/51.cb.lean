/-! THE COMPONENT: its object at xo, its arrays and queues at b .. b + 31, its tables in lists anywhere -/
set_option maxRecDepth 100000
set_option maxHeartbeats 4000000
/-- kinds of the arrays of the two queues -/
def qk (b : Int) : Nat := 60 + (b + 15).toNat
def pk (b : Int) : Nat := 60 + (b + 21).toNat
def xK (b k : Int) : Nat := if k = 17 then qk b else if k = 23 then pk b else if k = 0 ∨ k = 24 then 54 else if k = 14 then 51 else if k = 15 ∨ k = 21 then 9 else if k = 16 then 5 else if k = 22 then 6 else 50
def xL (k : Int) : Int := if k = 18 then 128 else 7
def xF (f : Int) : Int := if f = 7 then 0 else if f ≤ 15 then f else if f = 20 then 21 else if f = 21 then 24 else f + 1
theorem xK_ne (b k : Int) : xK b k ≠ 0 := by unfold xK qk pk; (repeat' split) <;> omega
def XI (E : Ev) (xo b : Int) (w : Wd) : Prop :=
  ((eB E : Int) ≤ xo ∧ xo < b ∧ kdw w xo = 1) ∧
  (∀ k : Int, 0 ≤ k → k ≤ 31 → kdw w (b + k) = xK b k) ∧
  (∀ k : Int, 0 ≤ k → k ≤ 31 → (k ≤ 14 ∨ (18 ≤ k ∧ k ≤ 20) ∨ 24 ≤ k) → lnw w (b + k) = xL k) ∧
  (∀ f : Int, (7 ≤ f ∧ f ≤ 15) ∨ (17 ≤ f ∧ f ≤ 21) → rdw w xo f = b + xF f) ∧
  (∀ i : Int, 0 ≤ i → i < 7 → rdw w b i = b + 1 + i ∧ rdw w (b + 24) i = b + 25 + i)
section XIS
variable {E : Ev} {xo b : Int} {w w' : Wd} {P : Int → Int → Prop} {T r c T' r' c' l n : Int} {h : Int → Int → Int}
theorem XI.hb (H : XI E xo b w) : (eB E : Int) ≤ xo := H.1.1
theorem XI.h0 (H : XI E xo b w) : 0 ≤ xo := by have := H.1.1; omega
theorem XI.hbb (H : XI E xo b w) : (eB E : Int) ≤ b := by have := H.1.1; have := H.1.2.1; omega
theorem XI.b0 (H : XI E xo b w) : 0 ≤ b := by have := H.hbb; omega
theorem XI.hk (H : XI E xo b w) : kdw w xo = 1 := H.1.2.2
theorem XI.kk (H : XI E xo b w) (k : Int) (hk : 0 ≤ k ∧ k ≤ 31) {c : Nat} (hc : xK b k = c) : kdw w (b + k) = c := by rw [← hc]; exact H.2.1 k hk.1 hk.2
theorem XI.ln (H : XI E xo b w) (k : Int) (hk : (0 ≤ k ∧ k ≤ 31) ∧ (k ≤ 14 ∨ (18 ≤ k ∧ k ≤ 20) ∨ 24 ≤ k)) {c : Int} (hc : xL k = c) : lnw w (b + k) = c := by rw [← hc]; exact H.2.2.1 k hk.1.1 hk.1.2 hk.2
theorem XI.f (H : XI E xo b w) (f : Int) (hf : (7 ≤ f ∧ f ≤ 15) ∨ (17 ≤ f ∧ f ≤ 21)) {c : Int} (hc : xF f = c) : rdw w xo f = b + c := by rw [← hc]; exact H.2.2.2.1 f hf
theorem XI.kb (H : XI E xo b w) : kdw w b = 54 := by have := H.2.1 0 (by omega) (by omega); rw [Int.add_zero] at this; rw [this]; rfl
theorem XI.lb (H : XI E xo b w) : lnw w b = 7 := by have := H.2.2.1 0 (by omega) (by omega) (by omega); rw [Int.add_zero] at this; rw [this]; rfl
theorem XI.gr (H : XI E xo b w) (hG : Gr P w w') (h1 : ∀ i, P xo i → i < 7 ∨ i = 16 ∨ 21 < i) (h2 : ∀ i, ¬ P b i) (h3 : ∀ i, ¬ P (b + 24) i) : XI E xo b w' := by
  have hx : kdw w xo ≠ 0 := by rw [H.hk]; decide
  have hbk : ∀ k : Int, 0 ≤ k → k ≤ 31 → kdw w (b + k) ≠ 0 := fun k k0 k1 => by rw [H.2.1 k k0 k1]; exact xK_ne b k
  have h0 : kdw w b ≠ 0 := by rw [H.kb]; decide
  refine ⟨⟨H.1.1, H.1.2.1, (hG.kd hx).trans H.hk⟩, fun k k0 k1 => (hG.kd (hbk k k0 k1)).trans (H.2.1 k k0 k1), fun k k0 k1 hk => (hG.ln (hbk k k0 k1)).trans (H.2.2.1 k k0 k1 hk), fun f hf => (hG.rd hx (fun z => by have := h1 f z; omega)).trans (H.2.2.2.1 f hf), fun i i0 i1 => ⟨(hG.rd h0 (h2 i)).trans (H.2.2.2.2 i i0 i1).1, (hG.rd (hbk 24 (by omega) (by omega)) (h3 i)).trans (H.2.2.2.2 i i0 i1).2⟩⟩
/-- a list of a table -/
def LSt (w : Wd) (T r l : Int) : Prop := l = T ∨ ∃ i : Int, 0 ≤ i ∧ i < r ∧ el w T i = l
/-- a table of r rows, c columns, with numbers h -/
def TB (E : Ev) (w : Wd) (T r c : Int) (h : Int → Int → Int) : Prop :=
  AL E w T r ∧ (∀ i : Int, 0 ≤ i → i < r → AL E w (el w T i) c ∧ el w T i ≠ T) ∧
  (∀ i j : Int, 0 ≤ i → i < r → 0 ≤ j → j < c → bx w (el w (el w T i) j) (h i j) ∧ el w (el w T i) j < eB E) ∧
  (∀ i j : Int, 0 ≤ i → i < r → 0 ≤ j → j < r → el w T i = el w T j → i = j)
theorem TB.al (H : TB E w T r c h) (hl : LSt w T r l) : ∃ n, AL E w l n := by
  rcases hl with rfl | ⟨i, i0, i1, rfl⟩
  · exact ⟨_, H.1⟩
  · exact ⟨_, (H.2.1 i i0 i1).1⟩
theorem TB.gr (H : TB E w T r c h) (hG : Gr P w w') (hO : OW E w) (h1 : ∀ a i, P a i → (eB E : Int) ≤ a) (h2 : ∀ l i, LSt w T r l → ¬ P l i ∧ ¬ P (rdw w l 1) i) :
    TB E w' T r c h ∧ rdw w' T 1 = rdw w T 1 ∧ (∀ i : Int, 0 ≤ i → i < r → el w' T i = el w T i ∧ rdw w' (el w T i) 1 = rdw w (el w T i) 1 ∧ ∀ j : Int, 0 ≤ j → j < c → el w' (el w T i) j = el w (el w T i) j) := by
  obtain ⟨t1, t2, t3, t4⟩ := H
  have hT := fun i => h2 T i (Or.inl rfl)
  have a1 := t1.gr hG (hT 1).1 (hT 2).1 hO
  have e1 : ∀ i : Int, 0 ≤ i → i < r → el w' T i = el w T i := fun i i0 i1 => t1.els hG (hT 1).1 ⟨i0, i1⟩ (hT i).2
  have hR := fun (i : Int) (i0 : 0 ≤ i) (i1 : i < r) (j : Int) => h2 (el w T i) j (Or.inr ⟨i, i0, i1, rfl⟩)
  have e2 : ∀ i j : Int, 0 ≤ i → i < r → 0 ≤ j → j < c → el w' (el w T i) j = el w (el w T i) j := fun i j i0 i1 j0 j1 => (t2 i i0 i1).1.els hG (hR i i0 i1 1).1 ⟨j0, j1⟩ (hR i i0 i1 j).2
  have a2 := fun (i : Int) (i0 : 0 ≤ i) (i1 : i < r) => (t2 i i0 i1).1.gr hG (hR i i0 i1 1).1 (hR i i0 i1 2).1 hO
  refine ⟨⟨a1.1, fun i i0 i1 => ?_, fun i j i0 i1 j0 j1 => ?_, fun i j i0 i1 j0 j1 e => ?_⟩, a1.2, fun i i0 i1 => ⟨e1 i i0 i1, (a2 i i0 i1).2, fun j j0 j1 => e2 i j i0 i1 j0 j1⟩⟩
  · rw [e1 i i0 i1]; exact ⟨(a2 i i0 i1).1, (t2 i i0 i1).2⟩
  · rw [e1 i i0 i1, e2 i j i0 i1 j0 j1]
    have := t3 i j i0 i1 j0 j1
    exact ⟨this.1.gr hG (fun z => by have := h1 _ _ z; omega), this.2⟩
  · rw [e1 i i0 i1, e1 j j0 j1] at e
    exact t4 i j i0 i1 j0 j1 e
theorem TB.cg {h' : Int → Int → Int} (H : TB E w T r c h) (hh : ∀ i j : Int, 0 ≤ i → i < r → 0 ≤ j → j < c → h' i j = h i j) : TB E w T r c h' :=
  ⟨H.1, H.2.1, fun i j i0 i1 j0 j1 => by rw [hh i j i0 i1 j0 j1]; exact H.2.2.1 i j i0 i1 j0 j1, H.2.2.2⟩
/-- what is not of the tables -/
def ZS (xo b : Int) (w : Wd) (a : Int) : Prop := a = xo ∨ (b ≤ a ∧ a ≤ b + 31) ∨ kdw w a = qk b ∨ kdw w a = pk b
theorem XI.zs (H : XI E xo b w) (hO : OW E w) (hl : AL E w l n) : ¬ ZS xo b w l ∧ ((eB E : Int) ≤ rdw w l 1 → ¬ ZS xo b w (rdw w l 1)) := by
  have hx := H.hk
  have hk7 := hl.1.2.1
  have hl0 := hl.h0
  have hb0 := H.b0
  have h15 := H.kk 15 (by omega) (c := 9) rfl
  have h21 := H.kk 21 (by omega) (c := 9) rfl
  constructor
  · rintro (z | ⟨z1, z2⟩ | z | z)
    · rw [z] at hk7; omega
    · have h1 := H.2.1 (l - b) (by omega) (by omega)
      rw [show b + (l - b) = l by omega, hk7] at h1
      revert h1
      unfold xK qk pk
      (repeat' split) <;> omega
    · unfold qk at z; omega
    · unfold pk at z; omega
  · intro ha
    have hka : kdw w (rdw w l 1) = 60 + l.toNat := by
      rcases hl.2 with z | z
      · have h1 := z.1
        have h2 := hO.1.1.1
        omega
      · exact z.2.1
    have n15 : l ≠ b + 15 := fun z => by rw [z, h15] at hk7; omega
    have n21 : l ≠ b + 21 := fun z => by rw [z, h21] at hk7; omega
    rintro (z | ⟨z1, z2⟩ | z | z)
    · rw [z] at hka; omega
    · have h1 := H.2.1 (rdw w l 1 - b) (by omega) (by omega)
      rw [show b + (rdw w l 1 - b) = rdw w l 1 by omega, hka] at h1
      revert h1
      unfold xK qk pk
      (repeat' split) <;> omega
    · unfold qk at z; omega
    · unfold pk at z; omega
end XIS
/-- a table that writes in the zone of the rest don't touch -/
theorem TB.zs {E : Ev} {xo b : Int} {w w' : Wd} {P : Int → Int → Prop} {T r c : Int} {h : Int → Int → Int} (H : TB E w T r c h) (hX : XI E xo b w) (hO : OW E w) (hG : Gr P w w') (h1 : ∀ a i, P a i → (eB E : Int) ≤ a ∧ ZS xo b w a) :
    TB E w' T r c h ∧ rdw w' T 1 = rdw w T 1 ∧ (∀ i : Int, 0 ≤ i → i < r → el w' T i = el w T i ∧ rdw w' (el w T i) 1 = rdw w (el w T i) 1 ∧ ∀ j : Int, 0 ≤ j → j < c → el w' (el w T i) j = el w (el w T i) j) :=
  H.gr hG hO (fun a i z => (h1 a i z).1) (fun l i hl => by
    obtain ⟨n, hn⟩ := H.al hl
    have h2 := hX.zs hO hn
    exact ⟨fun z => h2.1 (h1 _ _ z).2, fun z => h2.2 (h1 _ _ z).1 (h1 _ _ z).2⟩)
/-- the queue of ways -/
def XQ (E : Ev) (b : Int) (w : Wd) : Prop := ∃ (s : Int) (S : Int → Prop), PQ E w (b + 15) (b + 16) s S (rkW w) ∧ (∀ r, S r → WV w r) ∧ (lnw w (rdw w (b + 15) 0) = 11 ∨ lnw w (rdw w (b + 15) 0) = 24 ∨ lnw w (rdw w (b + 15) 0) = 50)
theorem XQ.gr {E : Ev} {b : Int} {w w' : Wd} {P : Int → Int → Prop} (H : XQ E b w) (hG : Gr P w w') (h1 : ∀ i, ¬ P (b + 15) i) (h2 : ∀ a i, kdw w a = qk b → ¬ P a i) (h3 : ∀ a i, kdw w a = 3 → ¬ P a i) : XQ E b w' := by
  obtain ⟨s, S, hQ, hS, hc⟩ := H
  have hka : kdw w (rdw w (b + 15) 0) = qk b := hQ.2.1.2.1
  have g := hQ.gr hG h1 (fun i => h2 _ i hka)
  refine ⟨s, S, g.1.rk (fun r hr => ((hS r hr).gr hG (fun i => h3 _ i (hS r hr).1.2)).2.1), fun r hr => ((hS r hr).gr hG (fun i => h3 _ i (hS r hr).1.2)).1, ?_⟩
  rw [g.2, hG.ln (by rw [hka]; unfold qk; omega)]
  exact hc
/-! the enumeration -/
def mk (π : List Nat) : Nat := π.foldl (fun s j => s ||| 1 <<< j) 0
/-- a part that stands for a prefix -/
def PP (w : Wd) (b : Int) (n : Nat) (r : Int) (π : List Nat) : Prop :=
  PV4 w r ∧ (rdw w r 1 = π.length ∧ π.length ≤ n ∧ π.Nodup ∧ ∀ x ∈ π, x < n) ∧ rdw w r 0 = ps (fun i j => rdw w (b + 25 + i) j) 0 π ∧ rdw w r 2 = cd 0 π ∧ rdw w r 3 = (mk π : Nat)
/-- how many parts can come of one with so many rows left, itself too -/
def wtN : Nat → Nat
  | 0 => 1
  | k + 1 => 1 + (k + 1) * wtN k
def wtL (w : Wd) (n : Nat) : List Int → Nat
  | [] => 0
  | r :: L => wtN (n - (rdw w r 1).toNat) + wtL w n L
def capP (c : Int) : Prop := c = 11 ∨ c = 24 ∨ c = 50 ∨ c = 102 ∨ c = 153 ∨ c = 229 ∨ c = 343 ∨ c = 514 ∨ c = 771 ∨ c = 1156 ∨ c = 1734 ∨ c = 2601
def ENUM (E : Ev) (xo b n : Int) (C : Int → Int → Int) (e : En) (w : Wd) : Prop :=
  (1 ≤ n ∧ n ≤ 6) ∧ ∃ L : List Int, PQ E w (b + 21) (b + 22) L.length (fun r => r ∈ L) (rkP w) ∧ L.Nodup ∧ capP (lnw w (rdw w (b + 21) 0)) ∧
  (∀ i j : Int, 0 ≤ i → i < n → 0 ≤ j → j < n → 0 ≤ rdw w (b + 25 + i) j ∧ rdw w (b + 25 + i) j ≤ 100000) ∧
  (∀ σ ∈ pmN n.toNat, ps C 0 σ = ps (fun i j => rdw w (b + 25 + i) j) 0 σ + rdw w xo 22) ∧
  (∀ r ∈ L, ∃ π, PP w b n.toNat r π) ∧
  (∀ t : Nat, t < (pmN n.toNat).length → ((e.ls < ps C 0 ((pmN n.toNat).getD t []) ∨ (ps C 0 ((pmN n.toNat).getD t []) = e.ls ∧ e.lp < t)) ↔ ∃ r ∈ L, ∃ π, PP w b n.toNat r π ∧ π <+: (pmN n.toNat).getD t [])) ∧
  (∀ r ∈ L, ∀ r' ∈ L, ∀ π π' σ, PP w b n.toNat r π → PP w b n.toNat r' π' → π <+: σ → π' <+: σ → r = r') ∧
  wtL w n.toNat L ≤ 1957 ∧
  e.k = (((List.range (pmN n.toNat).length).countP (fun t => decide (¬ (e.ls < ps C 0 ((pmN n.toNat).getD t []) ∨ (ps C 0 ((pmN n.toNat).getD t []) = e.ls ∧ e.lp < t)))) : Nat) : Int) ∧
  (1 ≤ e.k → ∃ τ ∈ pmN n.toNat, rdw w xo 25 = cd 0 τ ∧ ∀ i : Int, 0 ≤ i → i < n → e.cu i = (τ.getD i.toNat 0 : Nat))
def XE (E : Ev) (xo b n : Int) (C : Int → Int → Int) (e : En) (w : Wd) : Prop :=
  (e.k = -1 ∧ rdw w xo 23 = 0 ∧ ∃ (s : Int) (S : Int → Prop) (rk : Int → Int), PQ E w (b + 21) (b + 22) s S rk ∧ capP (lnw w (rdw w (b + 21) 0))) ∨
  (0 ≤ e.k ∧ rdw w xo 23 = 1 ∧ rdw w xo 24 = e.k ∧ ENUM E xo b n C e w)
theorem PP.gr {w w' : Wd} {b r : Int} {n : Nat} {π : List Nat} {P : Int → Int → Prop} (H : PP w b n r π) (hG : Gr P w w') (hn : n ≤ 7) (h3 : ∀ a i, kdw w a = 4 → ¬ P a i) (h4 : ∀ k i : Int, 0 ≤ k → k < 7 → kdw w (b + 25 + k) ≠ 0 ∧ ¬ P (b + 25 + k) i) : PP w' b n r π := by
  obtain ⟨p1, p2, p3, p4, p5⟩ := H
  have g := p1.gr hG (fun i => h3 _ i p1.1.2)
  refine ⟨g.1, by rw [g.2.2]; exact p2, ?_, by rw [g.2.2]; exact p4, by rw [g.2.2]; exact p5⟩
  rw [g.2.2, p3]
  refine ps_cgL (fun k hk => ?_)
  have := h4 (0 + (k : Int)) (π.getD k 0 : Nat) (by omega) (by omega)
  exact (hG.rd this.1 this.2).symm
theorem PP.back {w w' : Wd} {b r : Int} {n : Nat} {π : List Nat} {P : Int → Int → Prop} (H : PP w' b n r π) (hG : Gr P w w') (hr : PV4 w r) (hn : n ≤ 7) (h3 : ∀ a i, kdw w a = 4 → ¬ P a i) (h4 : ∀ k i : Int, 0 ≤ k → k < 7 → kdw w (b + 25 + k) ≠ 0 ∧ ¬ P (b + 25 + k) i) : PP w b n r π := by
  obtain ⟨p1, p2, p3, p4, p5⟩ := H
  have g := hr.gr hG (fun i => h3 _ i hr.1.2)
  refine ⟨hr, by rw [← g.2.2]; exact p2, ?_, by rw [← g.2.2]; exact p4, by rw [← g.2.2]; exact p5⟩
  rw [← g.2.2, p3]
  refine ps_cgL (fun k hk => ?_)
  have := h4 (0 + (k : Int)) (π.getD k 0 : Nat) (by omega) (by omega)
  exact hG.rd this.1 this.2
theorem wtL_cg {w w' : Wd} {n : Nat} : ∀ {L : List Int}, (∀ r ∈ L, rdw w' r 1 = rdw w r 1) → wtL w' n L = wtL w n L
  | [], _ => rfl
  | r :: L, h => by
    unfold wtL
    rw [h r List.mem_cons_self, wtL_cg (fun r hr => h r (List.mem_cons_of_mem _ hr))]
theorem XE.gr {E : Ev} {xo b n : Int} {C : Int → Int → Int} {e : En} {w w' : Wd} {P : Int → Int → Prop} (H : XE E xo b n C e w) (hX : XI E xo b w) (hG : Gr P w w') (h0 : ∀ i, 22 ≤ i → i ≤ 25 → ¬ P xo i) (h1 : ∀ i, ¬ P (b + 21) i) (h2 : ∀ a i, kdw w a = pk b → ¬ P a i) (h3 : ∀ a i, kdw w a = 4 → ¬ P a i) (h4 : ∀ k i : Int, 25 ≤ k → k ≤ 31 → ¬ P (b + k) i) : XE E xo b n C e w' := by
  have hx : kdw w xo ≠ 0 := by rw [hX.hk]; decide
  rcases H with ⟨k1, f1, s, S, rk, hQ, hc⟩ | ⟨k1, f1, f2, hn, L, hQ, nd, hc, r1, r2, pp, cv, un, wt, ct, lc⟩
  · have hka : kdw w (rdw w (b + 21) 0) = pk b := hQ.2.1.2.1
    have g := hQ.gr hG h1 (fun i => h2 _ i hka)
    exact Or.inl ⟨k1, (hG.rd hx (h0 23 (by omega) (by omega))).trans f1, s, S, rk, g.1, by rw [g.2, hG.ln (by rw [hka]; unfold pk; omega)]; exact hc⟩
  · have hka : kdw w (rdw w (b + 21) 0) = pk b := hQ.2.1.2.1
    have g := hQ.gr hG h1 (fun i => h2 _ i hka)
    have hpv : ∀ r ∈ L, PV4 w r := fun r hr => by obtain ⟨π, hp⟩ := pp r hr; exact hp.1
    have h5 : ∀ k i : Int, 0 ≤ k → k < 7 → kdw w (b + 25 + k) ≠ 0 ∧ ¬ P (b + 25 + k) i := fun k i k0 k1 => by
      have e1 : b + 25 + k = b + (25 + k) := by omega
      rw [e1]
      exact ⟨by rw [hX.2.1 (25 + k) (by omega) (by omega)]; exact xK_ne _ _, h4 (25 + k) i (by omega) (by omega)⟩
    have eR : ∀ i j : Int, 0 ≤ i → i < 7 → rdw w' (b + 25 + i) j = rdw w (b + 25 + i) j := fun i j i0 i1 => hG.rd (h5 i j i0 i1).1 (h5 i j i0 i1).2
    have hpg : ∀ r ∈ L, ∀ π, PP w' b n.toNat r π ↔ PP w b n.toNat r π := fun r hr π => ⟨fun hp => hp.back hG (hpv r hr) (by omega) h3 h5, fun hp => hp.gr hG (by omega) h3 h5⟩
    refine Or.inr ⟨k1, (hG.rd hx (h0 23 (by omega) (by omega))).trans f1, (hG.rd hx (h0 24 (by omega) (by omega))).trans f2, hn, L, g.1.rk (fun r hr => ((hpv r hr).gr hG (fun i => h3 _ i (hpv r hr).1.2)).2.1), nd, ?_, fun i j i0 i1 j0 j1 => ?_, fun σ hσ => ?_, fun r hr => ?_, fun t ht => ?_, fun r hr r' hr' π π' σ a1 a2 a3 a4 => ?_, ?_, ct, fun hk => ?_⟩
    · rw [g.2, hG.ln (by rw [hka]; unfold pk; omega)]; exact hc
    · rw [eR i j i0 (by omega)]; exact r1 i j i0 i1 j0 j1
    · rw [hG.rd hx (h0 22 (by omega) (by omega)), r2 σ hσ]
      congr 1
      exact ps_cgp hσ (fun i j i0 i1 j0 j1 => (eR i j i0 (by omega)).symm)
    · obtain ⟨π, hp⟩ := pp r hr
      exact ⟨π, (hpg r hr π).mpr hp⟩
    · rw [cv t ht]
      constructor
      · rintro ⟨r, hr, π, hp, hx⟩; exact ⟨r, hr, π, (hpg r hr π).mpr hp, hx⟩
      · rintro ⟨r, hr, π, hp, hx⟩; exact ⟨r, hr, π, (hpg r hr π).mp hp, hx⟩
    · exact un r hr r' hr' π π' σ ((hpg r hr π).mp a1) ((hpg r' hr' π').mp a2) a3 a4
    · rw [wtL_cg (w := w) (fun r hr => ((hpv r hr).gr hG (fun i => h3 _ i (hpv r hr).1.2)).2.2 1)]; exact wt
    · obtain ⟨τ, t1, t2, t3⟩ := lc hk
      exact ⟨τ, t1, (hG.rd hx (h0 25 (by omega) (by omega))).trans t2, t3⟩
/-- the tables: what is held and what is saved -/
def XT (E : Ev) (xo n m : Int) (h : Int → Int → Int) (sn sm : Int) (sh : Int → Int → Int) (w : Wd) : Prop :=
  ((rdw w xo 0 = n ∧ rdw w xo 1 = m ∧ rdw w xo 3 = sn ∧ rdw w xo 4 = sm) ∧ (1 ≤ m ∧ m ≤ n ∧ n ≤ 7) ∧ (1 ≤ sm ∧ sm ≤ sn ∧ sn ≤ 7)) ∧
  (TB E w (rdw w xo 2) n m h ∧ TB E w (rdw w xo 5) sn sm sh ∧ ∀ l, LSt w (rdw w xo 2) n l → ¬ LSt w (rdw w xo 5) sn l) ∧
  (∀ i j : Int, 0 ≤ i → i < n → 0 ≤ j → j < m → -100 ≤ h i j ∧ h i j ≤ 99) ∧ (∀ i j : Int, 0 ≤ i → i < sn → 0 ≤ j → j < sm → -100 ≤ sh i j ∧ sh i j ≤ 99)
theorem LSt.cg {w w' : Wd} {T T' r l : Int} (hT : T' = T) (he : ∀ i : Int, 0 ≤ i → i < r → el w' T i = el w T i) : LSt w' T' r l ↔ LSt w T r l := by
  subst hT
  unfold LSt
  constructor
  · rintro (z | ⟨i, i0, i1, z⟩)
    · exact Or.inl z
    · exact Or.inr ⟨i, i0, i1, by rw [← he i i0 i1]; exact z⟩
  · rintro (z | ⟨i, i0, i1, z⟩)
    · exact Or.inl z
    · exact Or.inr ⟨i, i0, i1, by rw [he i i0 i1]; exact z⟩
theorem XT.gr {E : Ev} {xo b n m sn sm : Int} {h sh : Int → Int → Int} {w w' : Wd} {P : Int → Int → Prop} (H : XT E xo n m h sn sm sh w) (hX : XI E xo b w) (hO : OW E w) (hG : Gr P w w') (h1 : ∀ a i, P a i → (eB E : Int) ≤ a ∧ (ZS xo b w a ∨ (kdw w a ≠ 7 ∧ kdw w a < 60 ∧ kdw w a ≠ 0))) (h2 : ∀ i, P xo i → 5 < i) : XT E xo n m h sn sm sh w' := by
  have hx : kdw w xo ≠ 0 := by rw [hX.hk]; decide
  have ef : ∀ i, i ≤ 5 → rdw w' xo i = rdw w xo i := fun i hi => hG.rd hx (fun z => by have := h2 i z; omega)
  obtain ⟨⟨⟨f0, f1, f3, f4⟩, b1, b2⟩, ⟨t1, t2, t3⟩, hb⟩ := H
  have key : ∀ (T r c : Int) (hh : Int → Int → Int), TB E w T r c hh → TB E w' T r c hh ∧ rdw w' T 1 = rdw w T 1 ∧ (∀ i : Int, 0 ≤ i → i < r → el w' T i = el w T i ∧ rdw w' (el w T i) 1 = rdw w (el w T i) 1 ∧ ∀ j : Int, 0 ≤ j → j < c → el w' (el w T i) j = el w (el w T i) j) := fun T r c hh H => by
    refine H.gr hG hO (fun a i z => (h1 a i z).1) (fun l i hl => ?_)
    obtain ⟨k, hn⟩ := H.al hl
    have h3 := hX.zs hO hn
    refine ⟨fun z => ?_, fun z => ?_⟩
    · rcases (h1 _ _ z).2 with y | y
      · exact h3.1 y
      · exact y.1 hn.1.2.1
    · have hz := h1 _ _ z
      rcases hz.2 with y | y
      · exact h3.2 hz.1 y
      · rcases hn.2 with q | q
        · have h4 := q.1
          have h5 := hO.1.1.1
          have := hz.1
          omega
        · have := q.2.1
          omega
  have k1 := key _ _ _ _ t1
  have k2 := key _ _ _ _ t2
  refine ⟨⟨⟨by rw [ef 0 (by omega)]; exact f0, by rw [ef 1 (by omega)]; exact f1, by rw [ef 3 (by omega)]; exact f3, by rw [ef 4 (by omega)]; exact f4⟩, b1, b2⟩, ⟨?_, ?_, fun l hl => ?_⟩, hb⟩
  · rw [ef 2 (by omega)]; exact k1.1
  · rw [ef 5 (by omega)]; exact k2.1
  · have e1 := (LSt.cg (ef 2 (by omega)) (fun i i0 i1 => (k1.2.2 i i0 i1).1)).mp hl
    exact fun z => t3 l e1 ((LSt.cg (ef 5 (by omega)) (fun i i0 i1 => (k2.2.2 i i0 i1).1)).mp z)
/-- the component whole -/
def XX (E : Ev) (xo b n m : Int) (h : Int → Int → Int) (sn sm : Int) (sh : Int → Int → Int) (e : En) (w : Wd) : Prop :=
  XI E xo b w ∧ OW E w ∧ XT E xo n m h sn sm sh w ∧ XQ E b w ∧ XE E xo b n (tC m h) e w
/-- where the component may write -/
def ZX (xo b : Int) (w : Wd) (a : Int) : Prop := (a = xo ∨ (b ≤ a ∧ a ≤ b + 31)) ∨ kdw w a = 7 ∨ 60 ≤ kdw w a
/-- where the paths and what is found by them are written -/
def ZW (E : Ev) (xo b : Int) (w : Wd) (a i : Int) : Prop := (a = xo ∧ (i = 6 ∨ i = 16)) ∨ (b + 1 ≤ a ∧ a ≤ b + 20) ∨ (kdw w a = qk b ∧ (eB E : Int) ≤ a)
section XXS
variable {E : Ev} {xo b n m sn sm : Int} {h sh : Int → Int → Int} {e : En} {w w' w2 : Wd} {P : Int → Int → Prop}
theorem ZW.zx (hX : XI E xo b w) {a i : Int} (hz : ZW E xo b w a i) : ZX xo b w a := by
  rcases hz with z | z | z
  · exact Or.inl (Or.inl z.1)
  · exact Or.inl (Or.inr ⟨by omega, by omega⟩)
  · exact Or.inr (Or.inr (by rw [z.1]; unfold qk; omega))
/-- writes of others -/
theorem XX.gr (H : XX E xo b n m h sn sm sh e w) (hG : Gr P w w') (h1 : ∀ a i, P a i → (eB E : Int) ≤ a ∧ a ≠ xo ∧ (a < b ∨ b + 31 < a) ∧ (kdw w a = 2 ∨ (50 ≤ kdw w a ∧ kdw w a ≤ 53))) : XX E xo b n m h sn sm sh e w' := by
  obtain ⟨hX, hO, hT, hQ, hE⟩ := H
  have nk : ∀ a i (c : Nat), kdw w a = c → (c ≠ 2 ∧ (c < 50 ∨ 53 < c)) → ¬ P a i := fun a i c hc hn z => by have := (h1 a i z).2.2.2; omega
  refine ⟨hX.gr hG (fun i z => absurd rfl (h1 _ _ z).2.1) (fun i z => by have := (h1 _ _ z).2.2.1; omega) (fun i z => by have := (h1 _ _ z).2.2.1; omega), hO.gr hG (fun a i z => (h1 a i z).1), hT.gr hX hO hG (fun a i z => ⟨(h1 a i z).1, Or.inr (by have := (h1 a i z).2.2.2; omega)⟩) (fun i z => absurd rfl (h1 _ _ z).2.1),
    hQ.gr hG (fun i z => by have := (h1 _ _ z).2.2.1; omega) (fun a i hk => nk a i _ hk (by unfold qk; omega)) (fun a i hk => nk a i _ hk (by omega)), hE.gr hX hG (fun i _ _ z => absurd rfl (h1 _ _ z).2.1) (fun i z => by have := (h1 _ _ z).2.2.1; omega) (fun a i hk => nk a i _ hk (by unfold pk; omega)) (fun a i hk => nk a i _ hk (by omega)) (fun k i k0 k1 z => by have := (h1 _ _ z).2.2.1; omega)⟩
theorem ZW.lo (hX : XI E xo b w) {a i : Int} (hz : ZW E xo b w a i) : (eB E : Int) ≤ a := by
  have h1 := hX.hb
  have h2 := hX.hbb
  rcases hz with z | z | z
  · rw [z.1]; exact h1
  · omega
  · exact z.2
end XXS
