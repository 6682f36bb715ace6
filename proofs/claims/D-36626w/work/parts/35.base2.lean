/-! BASE for what makes new cells: known cells keep; lists, iterators, Integers -/
set_option maxRecDepth 100000
section B2
variable {X : Cx} {E : Ev} {own : String} {cc : ByteArray} {nL d bc bs : Nat} {w : Wd} {pc pc' : Nat} {lv : List (Nat × Int)} {st : List Value}
theorem g_icmp_eqS {x off : Int} {tgt : Nat} (h : Ok X E own cc nL d) (dg : decode cc pc = .ok (.if_icmp .eq off, 3)) (ht : (pc : Int) + off = (tgt : Int)) (kt : GG X bc bs w tgt lv st) : GG X bc bs w pc lv (vI x :: vI x :: st) := by
  intro H locs ls cells slots a b c e f
  exact lv_icmp_eq h.1 h.2.1 dg ht (fun _ => kt H locs ls cells slots a b c e f) (fun q => absurd rfl q)
/-- a load from an array of Integers -/
theorem g_cald {a i n : Int} (h : Ok X E own cc nL d) (dg : decode cc pc = .ok (.aaload, 1)) (ha : 0 ≤ a) (hk : kdw w a = 49) (hn : lnw w a = n) (hi : 0 ≤ i ∧ i < n ∧ n ≤ 2147483647) (hp : pc + 1 = pc') (K : GG X bc bs w pc' lv (vR (rdw w a i) :: st)) : GG X bc bs w pc lv (vI i :: vR a :: st) := by
  subst hp
  subst hn
  intro H locs ls cells slots hR b c e f
  obtain ⟨hx, hb, hml, hown, hts, hKn, hSt, hRm, hTr, hlE, hbs, hlk, hE⟩ := h
  subst hE
  rw [vR_pos ha]
  have h1 := wRep_arr hR ha (by omega)
  rw [hk] at h1
  have hi2 : 0 ≤ i ∧ i < lnw w a ∧ i ≤ 2147483647 := by omega
  refine W.aald (v := vR (rdw w a i)) (ty := aT 49) hx hb h1 (hKn.2.2.1.1.2 _ _) rfl (fun q => by cases q) (in_of hi2).1 ?_ rfl rfl dg (K H locs ls cells slots hR b c e f)
  rw [(in_of hi2).2]
  show some (vR (rdw w a (i.toNat : Int))) = _
  rw [Int.toNat_of_nonneg hi2.1]
theorem g_mmax {idx : Nat} {x y : Int} (h : Ok X E own cc nL d) (dg : decode cc pc = .ok (.invokestatic idx, 3)) (hq : Jvm.Cond.methodLink own idx Lib.Math.max.name ∈ lw_all) (q1 : Jvm.Cond.static Lib.Math.max.name ∈ lw_all) (q2 : Jvm.Cond.initialized "java/lang/Math" ∈ lw_all) (q3 : Jvm.Cond.code Lib.Math.max.name Lib.Math.max.code 2 (some .int) ∈ lw_all) (hx : -2147483648 ≤ x ∧ x ≤ 2147483647) (hy : -2147483648 ≤ y ∧ y ≤ 2147483647) (hd : 1 ≤ d) (hs : st.length ≤ 4) (hp : pc + 3 = pc') (K : GG X bc bs w pc' lv (vI (if x < y then y else x) :: st)) : GG X bc bs w pc lv (vI y :: vI x :: st) := by
  subst hp
  intro H locs ls cells slots hR b c e f
  obtain ⟨hxx, hb, hml, hown, hts, hKn, hSt, hRm, hTr, hlE, hbs, hlk, hE⟩ := h
  have hsum := cats_le st
  refine va_mmax hxx hb c.1.symm hown (hts _ hq) (hts _ q1) (hts _ q2) (hts _ q3) (by omega) (by omega) (by omega) (by omega) dg ?_
  have hk := K H locs ls cells slots hR b c e f
  have hv : vI (if x < y then y else x) = Value.int (if Int32.ofInt x < Int32.ofInt y then Int32.ofInt y else Int32.ofInt x) := by
    by_cases hc : x < y
    · rw [if_pos hc, if_pos ((cmp_lt hx hy).mpr hc)]; rfl
    · rw [if_neg hc, if_neg (fun z => hc ((cmp_lt hx hy).mp z))]; rfl
  rw [hv] at hk
  exact hk
theorem g_mmin {idx : Nat} {x y : Int} (h : Ok X E own cc nL d) (dg : decode cc pc = .ok (.invokestatic idx, 3)) (hq : Jvm.Cond.methodLink own idx Lib.Math.min.name ∈ lw_all) (q1 : Jvm.Cond.static Lib.Math.min.name ∈ lw_all) (q2 : Jvm.Cond.initialized "java/lang/Math" ∈ lw_all) (q3 : Jvm.Cond.code Lib.Math.min.name Lib.Math.min.code 2 (some .int) ∈ lw_all) (hx : -2147483648 ≤ x ∧ x ≤ 2147483647) (hy : -2147483648 ≤ y ∧ y ≤ 2147483647) (hd : 1 ≤ d) (hs : st.length ≤ 4) (hp : pc + 3 = pc') (K : GG X bc bs w pc' lv (vI (if y < x then y else x) :: st)) : GG X bc bs w pc lv (vI y :: vI x :: st) := by
  subst hp
  intro H locs ls cells slots hR b c e f
  obtain ⟨hxx, hb, hml, hown, hts, hKn, hSt, hRm, hTr, hlE, hbs, hlk, hE⟩ := h
  have hsum := cats_le st
  refine va_mmin hxx hb c.1.symm hown (hts _ hq) (hts _ q1) (hts _ q2) (hts _ q3) (by omega) (by omega) (by omega) (by omega) dg ?_
  have hk := K H locs ls cells slots hR b c e f
  have hv : vI (if y < x then y else x) = Value.int (if Int32.ofInt y < Int32.ofInt x then Int32.ofInt y else Int32.ofInt x) := by
    by_cases hc : y < x
    · rw [if_pos hc, if_pos ((cmp_lt hy hx).mpr hc)]; rfl
    · rw [if_neg hc, if_neg (fun z => hc ((cmp_lt hy hx).mp z))]; rfl
  rw [hv] at hk
  exact hk
theorem g_mabs {idx : Nat} {x : Int} (h : Ok X E own cc nL d) (dg : decode cc pc = .ok (.invokestatic idx, 3)) (hq : Jvm.Cond.methodLink own idx Lib.Math.abs.name ∈ lw_all) (q1 : Jvm.Cond.static Lib.Math.abs.name ∈ lw_all) (q2 : Jvm.Cond.initialized "java/lang/Math" ∈ lw_all) (q3 : Jvm.Cond.code Lib.Math.abs.name Lib.Math.abs.code 1 (some .int) ∈ lw_all) (hx : -2147483648 ≤ x ∧ x ≤ 2147483647) (hd : 1 ≤ d) (hs : st.length ≤ 4) (hp : pc + 3 = pc') (K : GG X bc bs w pc' lv (vI (ab x) :: st)) : GG X bc bs w pc lv (vI x :: st) := by
  subst hp
  intro H locs ls cells slots hR b c e f
  obtain ⟨hxx, hb, hml, hown, hts, hKn, hSt, hRm, hTr, hlE, hbs, hlk, hE⟩ := h
  have hsum := cats_le st
  refine va_mabs hxx hb c.1.symm hown (hts _ hq) (hts _ q1) (hts _ q2) (hts _ q3) (by omega) (by omega) (by omega) (by omega) dg ?_
  have hk := K H locs ls cells slots hR b c e f
  have hv : vI (ab x) = Value.int (if 0 ≤ Int32.ofInt x then Int32.ofInt x else 0 - Int32.ofInt x) := by
    have h0 : (0 : Int32) = Int32.ofInt 0 := rfl
    unfold ab
    by_cases hc : x < 0
    · rw [if_pos hc, if_neg (fun z => by rw [h0, cmp_le (by omega) hx] at z; omega), h0, ← Int32.ofInt_sub, Int.zero_sub]; rfl
    · rw [if_neg hc, if_pos (by rw [h0, cmp_le (by omega) hx]; omega)]; rfl
  rw [hv] at hk
  exact hk
/-- behind the last cell nothing is known -/
def FRs (w : Wd) : Prop := ∀ a : Int, szw w ≤ a → kdw w a = 0
theorem FRs_rep {H : Heap} (h : wRep E w H) : FRs w := fun a ha => by
  have hs := h.1
  apply Classical.byContradiction
  intro hk
  have h1 := h.2 a.toNat (by rw [show ((a.toNat : Nat) : Int) = a by omega]; exact hk)
  have := wAt_lt h1
  omega
theorem g_fr (k : FRs w → 0 ≤ szw w → GG X bc bs w pc lv st) : GG X bc bs w pc lv st := by
  intro H locs ls cells slots hR b c e f
  exact k (FRs_rep hR) (by have := hR.1; omega) H locs ls cells slots hR b c e f
theorem g_szB (h : Ok X E own cc nL d) (k : (eB E : Int) ≤ szw w → GG X bc bs w pc lv st) : GG X bc bs w pc lv st := by
  intro H locs ls cells slots hR b c e f
  have h1 : (cS X).heap.size ≤ H.size := b.1
  have h2 : eB E ≤ (cS X).heap.size := by
    obtain ⟨hx, hb, hml, hown, hts, hKn, hSt, hRm, hTr, hlE, hbs, hlk, hE⟩ := h
    rw [← hE]; exact hbs
  exact k (by have := hR.1; omega) H locs ls cells slots hR b c e f
end B2
/-- every known cell keeps its kind and length, and what it holds but at P -/
def Gr (P : Int → Int → Prop) (w w' : Wd) : Prop := szw w ≤ szw w' ∧ ∀ a, kdw w a ≠ 0 → kdw w' a = kdw w a ∧ lnw w' a = lnw w a ∧ ∀ i, ¬ P a i → rdw w' a i = rdw w a i
section GRS
variable {P P' : Int → Int → Prop} {w0 w w' : Wd} {a i x : Int}
theorem Gr.rf : Gr P w w := ⟨Int.le_refl _, fun _ _ => ⟨rfl, rfl, fun _ _ => rfl⟩⟩
theorem Gr.up (h : Gr P w0 w) (hp : P a i) : Gr P w0 (upw w a i x) := ⟨h.1, fun b hb => ⟨(h.2 b hb).1, (h.2 b hb).2.1, fun j hj => by rw [rd_up_ne (fun z => hj (by rw [z.1, z.2]; exact hp))]; exact (h.2 b hb).2.2 j hj⟩⟩
theorem Gr.upN (h : Gr P w0 w) (hp : kdw w0 a = 0) : Gr P w0 (upw w a i x) := ⟨h.1, fun b hb => ⟨(h.2 b hb).1, (h.2 b hb).2.1, fun j hj => by rw [rd_up_ne (fun z => hb (by rw [z.1]; exact hp))]; exact (h.2 b hb).2.2 j hj⟩⟩
theorem Gr.al {k : Nat} {n : Int} {f : Int → Int} (h : Gr P w0 w) (hf : FRs w) : Gr P w0 (alw w k n f) := by
  refine ⟨by rw [sz_al]; have := h.1; omega, fun b hb => ?_⟩
  have h1 := h.2 b hb
  have hne : b ≠ szw w := fun z => hb (by rw [← h1.1, z]; exact hf _ (Int.le_refl _))
  refine ⟨?_, ?_, fun j hj => ?_⟩
  · rw [kd_al, if_neg hne]; exact h1.1
  · rw [ln_al, if_neg hne]; exact h1.2.1
  · rw [rd_al, if_neg hne]; exact h1.2.2 j hj
theorem Gr.tr (h : Gr P w0 w) (h2 : Gr P w w') : Gr P w0 w' := ⟨Int.le_trans h.1 h2.1, fun b hb => by
  have h3 := h.2 b hb
  have h4 := h2.2 b (by rw [h3.1]; exact hb)
  exact ⟨h4.1.trans h3.1, h4.2.1.trans h3.2.1, fun j hj => (h4.2.2 j hj).trans (h3.2.2 j hj)⟩⟩
/-- two steps, the second one also in cells that are new to the first world -/
theorem Gr.trN (h : Gr P w0 w) (h2 : Gr P' w w') (hp : ∀ a i, kdw w0 a ≠ 0 → P' a i → P a i) : Gr P w0 w' := ⟨Int.le_trans h.1 h2.1, fun b hb => by
  have h3 := h.2 b hb
  have h4 := h2.2 b (by rw [h3.1]; exact hb)
  exact ⟨h4.1.trans h3.1, h4.2.1.trans h3.2.1, fun j hj => (h4.2.2 j (fun z => hj (hp _ _ hb z))).trans (h3.2.2 j hj)⟩⟩
theorem Gr.wk (h : Gr P w0 w) (hp : ∀ a i, P a i → P' a i) : Gr P' w0 w := ⟨h.1, fun b hb => ⟨(h.2 b hb).1, (h.2 b hb).2.1, fun j hj => (h.2 b hb).2.2 j (fun z => hj (hp _ _ z))⟩⟩
theorem Gr.szU {n : Int} (h : Gr P w0 w) (hn : szw w ≤ n) : Gr P w0 (szU w n) := ⟨Int.le_trans h.1 hn, h.2⟩
theorem Gr.kd (h : Gr P w0 w) (hk : kdw w0 a ≠ 0) : kdw w a = kdw w0 a := (h.2 a hk).1
theorem Gr.ln (h : Gr P w0 w) (hk : kdw w0 a ≠ 0) : lnw w a = lnw w0 a := (h.2 a hk).2.1
theorem Gr.rd (h : Gr P w0 w) (hk : kdw w0 a ≠ 0) (hp : ¬ P a i) : rdw w a i = rdw w0 a i := (h.2 a hk).2.2 i hp
theorem Fr.gr (h : Fr P w0 w) : Gr P w0 w := ⟨by rw [h.sz]; exact Int.le_refl _, fun b _ => ⟨h.kd b, h.ln b, fun j hj => h.rd b j hj⟩⟩
theorem FRs.up (h : FRs w) : FRs (upw w a i x) := h
theorem FRs.al {k : Nat} {n : Int} {f : Int → Int} (h : FRs w) : FRs (alw w k n f) := fun b hb => by
  rw [sz_al] at hb
  rw [kd_al, if_neg (by omega)]
  exact h b (by omega)
theorem kd_ne {a b : Int} {k k' : Nat} (h1 : kdw w a = k) (h2 : kdw w b = k') (hn : k ≠ k') : a ≠ b := fun e => hn (by rw [← h1, ← h2, e])
end GRS
/-- an Integer -/
def bx (w : Wd) (o v : Int) : Prop := 0 ≤ o ∧ kdw w o = 10 ∧ rdw w o 0 = v
/-- the old cells: the empty array, the cache of Integers -/
def OW (E : Ev) (w : Wd) : Prop := ((eC E < eB E ∧ kdw w (eC E : Int) = 55 ∧ lnw w (eC E : Int) = 0) ∧ (eI E < eB E ∧ kdw w (eI E : Int) = 49 ∧ lnw w (eI E : Int) = 256)) ∧ ∀ i : Int, 0 ≤ i → i < 256 → bx w (rdw w (eI E : Int) i) (i - 128) ∧ rdw w (eI E : Int) i < eB E
/-- a list of the library: n elements, capacity 10 (or the empty array) -/
def AL (E : Ev) (w : Wd) (l n : Int) : Prop := ((eB E : Int) ≤ l ∧ kdw w l = 7 ∧ rdw w l 2 = n ∧ 0 ≤ n) ∧ ((rdw w l 1 = (eC E : Int) ∧ n = 0) ∨ ((eB E : Int) ≤ rdw w l 1 ∧ kdw w (rdw w l 1) = 60 + l.toNat ∧ n ≤ 10 ∧ lnw w (rdw w l 1) = 10))
def el (w : Wd) (l i : Int) : Int := rdw w (rdw w l 1) i
/-- what a list owns -/
def aP (E : Ev) (w : Wd) (l a : Int) : Prop := a = l ∨ (a = rdw w l 1 ∧ (eB E : Int) ≤ a)
/-- an iterator of l at c -/
def IT (E : Ev) (w : Wd) (it l c : Int) : Prop := ((eB E : Int) ≤ it ∧ kdw w it = 8) ∧ rdw w it 3 = l ∧ rdw w it 2 = rdw w l 0 ∧ rdw w it 0 = c
section ALS
variable {E : Ev} {w w' : Wd} {l n it c o v a i x : Int} {P : Int → Int → Prop}
theorem AL.arr (h : AL E w l n) (hn : 0 < n) : (eB E : Int) ≤ rdw w l 1 ∧ kdw w (rdw w l 1) = 60 + l.toNat ∧ n ≤ 10 ∧ lnw w (rdw w l 1) = 10 := by
  rcases h.2 with h | h
  · omega
  · exact h
theorem AL.h0 (h : AL E w l n) : 0 ≤ l := by have := h.1.1; omega
theorem OW.gr (h : OW E w) (hG : Gr P w w') (hP : ∀ a i, P a i → (eB E : Int) ≤ a) : OW E w' := by
  obtain ⟨⟨⟨h1, h2, h3⟩, h4, h5, h6⟩, h7⟩ := h
  have g1 := hG.2 (eC E : Int) (by omega)
  have g2 := hG.2 (eI E : Int) (by omega)
  refine ⟨⟨⟨h1, g1.1.trans h2, g1.2.1.trans h3⟩, h4, g2.1.trans h5, g2.2.1.trans h6⟩, fun i i0 i1 => ?_⟩
  rw [g2.2.2 i (fun z => by have := hP _ _ z; omega)]
  obtain ⟨⟨b1, b2, b3⟩, b4⟩ := h7 i i0 i1
  have g3 := hG.2 (rdw w (eI E : Int) i) (by omega)
  exact ⟨⟨b1, g3.1.trans b2, (g3.2.2 0 (fun z => by have := hP _ _ z; omega)).trans b3⟩, b4⟩
theorem bx.gr (h : bx w o v) (hG : Gr P w w') (hP : ¬ P o 0) : bx w' o v := ⟨h.1, (hG.kd (by rw [h.2.1]; decide)).trans h.2.1, (hG.rd (by rw [h.2.1]; decide) hP).trans h.2.2⟩
theorem AL.gr (h : AL E w l n) (hG : Gr P w w') (h1 : ¬ P l 1) (h2 : ¬ P l 2) (hE : OW E w) : AL E w' l n ∧ rdw w' l 1 = rdw w l 1 := by
  have hk : kdw w l ≠ 0 := by rw [h.1.2.1]; decide
  have he := hG.rd hk h1
  refine ⟨⟨⟨h.1.1, (hG.kd hk).trans h.1.2.1, (hG.rd hk h2).trans h.1.2.2.1, h.1.2.2.2⟩, ?_⟩, he⟩
  rw [he]
  rcases h.2 with z | z
  · exact Or.inl z
  · have hk2 : kdw w (rdw w l 1) ≠ 0 := by rw [z.2.1]; omega
    exact Or.inr ⟨z.1, (hG.kd hk2).trans z.2.1, z.2.2.1, (hG.ln hk2).trans z.2.2.2⟩
theorem AL.els (h : AL E w l n) (hG : Gr P w w') (h1 : ¬ P l 1) (hi : 0 ≤ i ∧ i < n) (hp : ¬ P (rdw w l 1) i) : el w' l i = el w l i := by
  have hk : kdw w l ≠ 0 := by rw [h.1.2.1]; decide
  have := h.arr (by omega)
  unfold el
  rw [hG.rd hk h1]
  exact hG.rd (by omega) hp
theorem OW.bx (h : OW E w) (hv : -128 ≤ v ∧ v ≤ 127) : bx w (rdw w (eI E : Int) (v + 128)) v := by
  have := (h.2 (v + 128) (by omega) (by omega)).1
  rw [show v + 128 - 128 = v by omega] at this
  exact this
end ALS
