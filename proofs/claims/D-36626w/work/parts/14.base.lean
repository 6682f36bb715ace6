/-! BASE: reads by length, frames, the model's layout -/
set_option maxRecDepth 100000
theorem rd_up_ne {w : Wd} {a i v b j : Int} (h : ¬ (b = a ∧ j = i)) : rdw (upw w a i v) b j = rdw w b j := by rw [rd_up, if_neg h]
theorem rd_up_eq {w : Wd} {a i v b j : Int} (h : b = a ∧ j = i) : rdw (upw w a i v) b j = v := by rw [rd_up, if_pos h]
theorem lcmp_lt0 {x y : Int} : (if y < x then (1 : Int) else if x < y then -1 else 0) < 0 ↔ x < y := by
  constructor
  · intro h; split at h
    · omega
    · split at h <;> omega
  · intro h
    rw [if_neg (by omega), if_pos h]; omega
theorem lcmp_gt0 {x y : Int} : 0 < (if y < x then (1 : Int) else if x < y then -1 else 0) ↔ y < x := by
  constructor
  · intro h; split at h
    · omega
    · split at h <;> omega
  · intro h
    rw [if_pos h]; omega
theorem lcmp_rng {x y : Int} : -2147483648 ≤ (if y < x then (1 : Int) else if x < y then -1 else 0) ∧ (if y < x then (1 : Int) else if x < y then -1 else 0) ≤ 2147483647 := by
  split
  · omega
  · split <;> omega
section BS
variable {X : Cx} {E : Ev} {own : String} {cc : ByteArray} {nL d bc bs : Nat} {w : Wd} {pc pc' : Nat} {lv : List (Nat × Int)} {st : List Value}
theorem g_ialdL {a i n : Int} (h : Ok X E own cc nL d) (dg : decode cc pc = .ok (.iaload, 1)) (ha : 0 ≤ a) (hk : kdw w a = 50) (hn : lnw w a = n) (hi : 0 ≤ i ∧ i < n ∧ n ≤ 2147483647) (hp : pc + 1 = pc') (K : GG X bc bs w pc' lv (vI (rdw w a i) :: st)) : GG X bc bs w pc lv (vI i :: vR a :: st) := g_iald h dg ha hk (by rw [hn]; omega) hp K
theorem g_zaldL {a i n : Int} (h : Ok X E own cc nL d) (dg : decode cc pc = .ok (.baload, 1)) (ha : 0 ≤ a) (hk : kdw w a = 51) (hn : lnw w a = n) (hi : 0 ≤ i ∧ i < n ∧ n ≤ 2147483647) (hp : pc + 1 = pc') (K : GG X bc bs w pc' lv (vI (rdw w a i) :: st)) : GG X bc bs w pc lv (vI i :: vR a :: st) := g_zald h dg ha hk (by rw [hn]; omega) hp K
theorem g_laldL {a i n : Int} (h : Ok X E own cc nL d) (dg : decode cc pc = .ok (.laload, 1)) (ha : 0 ≤ a) (hk : kdw w a = 52) (hn : lnw w a = n) (hi : 0 ≤ i ∧ i < n ∧ n ≤ 2147483647) (hp : pc + 1 = pc') (K : GG X bc bs w pc' lv (vL (rdw w a i) :: st)) : GG X bc bs w pc lv (vI i :: vR a :: st) := g_lald h dg ha hk (by rw [hn]; omega) hp K
theorem g_daldL {a i n : Int} (h : Ok X E own cc nL d) (dg : decode cc pc = .ok (.daload, 1)) (ha : 0 ≤ a) (hk : kdw w a = 53) (hn : lnw w a = n) (hi : 0 ≤ i ∧ i < n ∧ n ≤ 2147483647) (hp : pc + 1 = pc') (K : GG X bc bs w pc' lv (vD (rdw w a i) :: st)) : GG X bc bs w pc lv (vI i :: vR a :: st) := g_dald h dg ha hk (by rw [hn]; omega) hp K
theorem g_aaldL {a i n : Int} (h : Ok X E own cc nL d) (dg : decode cc pc = .ok (.aaload, 1)) (ha : 0 ≤ a) (hk : 54 ≤ kdw w a) (hn : lnw w a = n) (hi : 0 ≤ i ∧ i < n ∧ n ≤ 2147483647) (hp : pc + 1 = pc') (K : GG X bc bs w pc' lv (vR (rdw w a i) :: st)) : GG X bc bs w pc lv (vI i :: vR a :: st) := g_aald h dg ha hk (by rw [hn]; omega) hp K
theorem g_iastL {a i x n : Int} (h : Ok X E own cc nL d) (dg : decode cc pc = .ok (.iastore, 1)) (ha : (eB E : Int) ≤ a) (hk : kdw w a = 50) (hn : lnw w a = n) (hi : 0 ≤ i ∧ i < n ∧ n ≤ 2147483647) (hp : pc + 1 = pc') (K : GG X bc bs (upw w a i x) pc' lv st) : GG X bc bs w pc lv (vI x :: vI i :: vR a :: st) := g_iast h dg ha hk (by rw [hn]; omega) hp K
theorem g_zastL {a i x n : Int} (h : Ok X E own cc nL d) (dg : decode cc pc = .ok (.bastore, 1)) (ha : (eB E : Int) ≤ a) (hk : kdw w a = 51) (hn : lnw w a = n) (hi : 0 ≤ i ∧ i < n ∧ n ≤ 2147483647) (hv : x = 0 ∨ x = 1) (hp : pc + 1 = pc') (K : GG X bc bs (upw w a i x) pc' lv st) : GG X bc bs w pc lv (vI x :: vI i :: vR a :: st) := g_zast h dg ha hk (by rw [hn]; omega) hv hp K
theorem g_lastL {a i x n : Int} (h : Ok X E own cc nL d) (dg : decode cc pc = .ok (.lastore, 1)) (ha : (eB E : Int) ≤ a) (hk : kdw w a = 52) (hn : lnw w a = n) (hi : 0 ≤ i ∧ i < n ∧ n ≤ 2147483647) (hp : pc + 1 = pc') (K : GG X bc bs (upw w a i x) pc' lv st) : GG X bc bs w pc lv (vL x :: vI i :: vR a :: st) := g_last h dg ha hk (by rw [hn]; omega) hp K
theorem g_dastL {a i x n : Int} (h : Ok X E own cc nL d) (dg : decode cc pc = .ok (.dastore, 1)) (ha : (eB E : Int) ≤ a) (hk : kdw w a = 53) (hn : lnw w a = n) (hi : 0 ≤ i ∧ i < n ∧ n ≤ 2147483647) (hp : pc + 1 = pc') (K : GG X bc bs (upw w a i x) pc' lv st) : GG X bc bs w pc lv (vD x :: vI i :: vR a :: st) := g_dast h dg ha hk (by rw [hn]; omega) hp K
theorem g_aastL {a i x n : Int} (h : Ok X E own cc nL d) (dg : decode cc pc = .ok (.aastore, 1)) (ha : (eB E : Int) ≤ a) (hk : 55 ≤ kdw w a) (hn : lnw w a = n) (hi : 0 ≤ i ∧ i < n ∧ n ≤ 2147483647) (hv : okr w x) (hp : pc + 1 = pc') (K : GG X bc bs (upw w a i x) pc' lv st) : GG X bc bs w pc lv (vR x :: vI i :: vR a :: st) := g_aast h dg ha hk (by rw [hn]; omega) hv hp K
theorem g_alenL {a n : Int} (h : Ok X E own cc nL d) (dg : decode cc pc = .ok (.arraylength, 1)) (ha : 0 ≤ a) (hk : 50 ≤ kdw w a) (hn : lnw w a = n) (h0 : 0 ≤ n) (hp : pc + 1 = pc') (K : GG X bc bs w pc' lv (vI n :: st)) : GG X bc bs w pc lv (vR a :: st) := by
  subst hn
  exact g_alen h dg ha hk h0 hp K
end BS
/-- only the places P were written, nothing was made -/
def Fr (P : Int → Int → Prop) (w0 w : Wd) : Prop := w.2 = w0.2 ∧ ∀ a i, ¬ P a i → rdw w a i = rdw w0 a i
theorem Fr.rf {P : Int → Int → Prop} {w : Wd} : Fr P w w := ⟨rfl, fun _ _ _ => rfl⟩
theorem Fr.up {P : Int → Int → Prop} {w0 w : Wd} {a i x : Int} (h : Fr P w0 w) (hp : P a i) : Fr P w0 (upw w a i x) :=
  ⟨h.1, fun b j hb => by rw [rd_up_ne (fun e => hb (by rw [e.1, e.2]; exact hp))]; exact h.2 b j hb⟩
theorem Fr.tr {P : Int → Int → Prop} {w0 w1 w2 : Wd} (h : Fr P w0 w1) (h2 : Fr P w1 w2) : Fr P w0 w2 := ⟨h2.1.trans h.1, fun b j hb => (h2.2 b j hb).trans (h.2 b j hb)⟩
theorem Fr.wk {P P' : Int → Int → Prop} {w0 w : Wd} (h : Fr P w0 w) (hp : ∀ a i, P a i → P' a i) : Fr P' w0 w := ⟨h.1, fun b j hb => h.2 b j (fun e => hb (hp b j e))⟩
theorem Fr.rd {P : Int → Int → Prop} {w0 w : Wd} (h : Fr P w0 w) (a i : Int) (hn : ¬ P a i) : rdw w a i = rdw w0 a i := h.2 a i hn
theorem Fr.kd {P : Int → Int → Prop} {w0 w : Wd} (h : Fr P w0 w) (a : Int) : kdw w a = kdw w0 a := by unfold kdw; rw [h.1]
theorem Fr.ln {P : Int → Int → Prop} {w0 w : Wd} (h : Fr P w0 w) (a : Int) : lnw w a = lnw w0 a := by unfold lnw; rw [h.1]
theorem Fr.sz {P : Int → Int → Prop} {w0 w : Wd} (h : Fr P w0 w) : szw w = szw w0 := by unfold szw; rw [h.1]
/-! the model's object at mo, its arrays at mo + 1 .. mo + 11 -/
def moK (k : Int) : Nat := if k = 3 ∨ k = 4 then 51 else 50
def moN (k : Int) : Int := if k ≤ 6 then 49 else 7
def moF (f : Int) : Int := if f ≤ 12 then f - 4 else f - 12
/-- layout and size: n rows, m real columns -/
def MI (E : Ev) (mo n m : Int) (w : Wd) : Prop :=
  ((eB E : Int) ≤ mo ∧ kdw w mo = 2 ∧ (∀ k : Int, 1 ≤ k → k ≤ 11 → kdw w (mo + k) = moK k ∧ lnw w (mo + k) = moN k)) ∧
  (∀ f : Int, (5 ≤ f ∧ f ≤ 12) ∨ (21 ≤ f ∧ f ≤ 23) → rdw w mo f = mo + moF f) ∧
  (rdw w mo 0 = n ∧ rdw w mo 1 = m ∧ 1 ≤ m ∧ m ≤ n ∧ n ≤ 7)
section MIS
variable {E : Ev} {mo n m : Int} {w : Wd}
theorem MI.hb (h : MI E mo n m w) : (eB E : Int) ≤ mo := h.1.1
theorem MI.h0 (h : MI E mo n m w) : 0 ≤ mo := by have := h.1.1; omega
theorem MI.hk (h : MI E mo n m w) : kdw w mo = 2 := h.1.2.1
theorem MI.k (h : MI E mo n m w) (k : Int) (hk : 1 ≤ k ∧ k ≤ 11) {c : Nat} (hc : moK k = c) : kdw w (mo + k) = c := by rw [← hc]; exact (h.1.2.2 k hk.1 hk.2).1
theorem MI.l (h : MI E mo n m w) (k : Int) (hk : 1 ≤ k ∧ k ≤ 11) {c : Int} (hc : moN k = c) : lnw w (mo + k) = c := by rw [← hc]; exact (h.1.2.2 k hk.1 hk.2).2
theorem MI.f (h : MI E mo n m w) (f : Int) (hf : (5 ≤ f ∧ f ≤ 12) ∨ (21 ≤ f ∧ f ≤ 23)) {c : Int} (hc : moF f = c) : rdw w mo f = mo + c := by rw [← hc]; exact h.2.1 f hf
theorem MI.vn (h : MI E mo n m w) : rdw w mo 0 = n := h.2.2.1
theorem MI.vm (h : MI E mo n m w) : rdw w mo 1 = m := h.2.2.2.1
theorem MI.b (h : MI E mo n m w) : 1 ≤ m ∧ m ≤ n ∧ n ≤ 7 := h.2.2.2.2
theorem MI.up {a i x : Int} (h : MI E mo n m w) (hn : a ≠ mo ∨ (1 < i ∧ i < 5) ∨ (12 < i ∧ i < 21)) : MI E mo n m (upw w a i x) :=
  ⟨h.1, fun f hf => by rw [rd_up_ne (by omega)]; exact h.2.1 f hf, by rw [rd_up_ne (by omega)]; exact h.2.2.1, by rw [rd_up_ne (by omega)]; exact h.2.2.2.1, h.2.2.2.2⟩
theorem MI.fr {P : Int → Int → Prop} {w' : Wd} (h : MI E mo n m w) (hF : Fr P w w') (hn : ∀ i, P mo i → (1 < i ∧ i < 5) ∨ (12 < i ∧ i < 21)) : MI E mo n m w' := by
  refine ⟨⟨h.1.1, by rw [hF.kd]; exact h.1.2.1, fun k h1 h2 => by rw [hF.kd, hF.ln]; exact h.1.2.2 k h1 h2⟩, fun f hf => ?_, ?_, ?_, h.2.2.2.2⟩
  · rw [hF.rd _ _ (fun e => by have := hn f e; omega)]; exact h.2.1 f hf
  · rw [hF.rd _ _ (fun e => by have := hn 0 e; omega)]; exact h.2.2.1
  · rw [hF.rd _ _ (fun e => by have := hn 1 e; omega)]; exact h.2.2.2.1
/-- a step of a write: layout and frame go on -/
theorem MI.step {X : Cx} {bc bs : Nat} {P : Int → Int → Prop} {w0 : Wd} {pc : Nat} {lv : List (Nat × Int)} {st : List Value} {a i x : Int} (h : MI E mo n m w) (hF : Fr P w0 w) (hn : a ≠ mo ∨ (1 < i ∧ i < 5) ∨ (12 < i ∧ i < 21)) (hp : P a i) (K : MI E mo n m (upw w a i x) → Fr P w0 (upw w a i x) → GG X bc bs (upw w a i x) pc lv st) : GG X bc bs (upw w a i x) pc lv st := K (h.up hn) (hF.up hp)
end MIS
/-- cost of a cell, as the model has it -/
def mcost (w : Wd) (mo i j : Int) : Int := if rdw w mo 1 ≤ j then 0 else if rdw w (mo + 3) (7 * i + j) = 0 then rdw w (mo + 1) (7 * i + j) else 1000
def mscost (w : Wd) (mo i j : Int) : Int := if rdw w mo 3 ≤ j then 0 else if rdw w (mo + 4) (7 * i + j) = 0 then rdw w (mo + 2) (7 * i + j) else 1000
/-- an int array holds the list -/
def PA (w : Wd) (a : Int) (σ : List Nat) : Prop := ∀ i : Int, 0 ≤ i → i < σ.length → rdw w a i = (σ.getD i.toNat 0 : Nat)
theorem PA.sw {w : Wd} {a i j : Int} {σ : List Nat} (h : PA w a σ) (hi : 0 ≤ i ∧ i < σ.length) (hj : 0 ≤ j ∧ j < σ.length) : PA (upw (upw w a i (rdw w a j)) a j (rdw w a i)) a (sw σ i.toNat j.toNat) := by
  intro k h0 h1
  rw [sw_len] at h1
  rw [sw_get (by omega) (by omega)]
  by_cases e1 : k = j
  · rw [rd_up_eq ⟨rfl, e1⟩, if_pos (by omega)]
    exact h i hi.1 hi.2
  · rw [rd_up_ne (by omega), if_neg (by omega)]
    by_cases e2 : k = i
    · rw [rd_up_eq ⟨rfl, e2⟩, if_pos (by omega)]
      exact h j hj.1 hj.2
    · rw [rd_up_ne (by omega), if_neg (by omega)]
      exact h k h0 h1
def zP (mo a _i : Int) : Prop := a = mo + 7
def zT (mo a _i : Int) : Prop := a = mo + 5
def zS (mo a i : Int) : Prop := a = mo + 6 ∨ a = mo + 8 ∨ (a = mo ∧ 13 ≤ i ∧ i ≤ 17)
def zL (mo a i : Int) : Prop := a = mo + 5 ∨ a = mo + 6 ∨ a = mo + 7 ∨ a = mo + 8 ∨ (a = mo ∧ 13 ≤ i ∧ i ≤ 17)
def cw (w : Wd) (mo i j : Int) : Int := rdw w (mo + 5) (7 * i + j)
