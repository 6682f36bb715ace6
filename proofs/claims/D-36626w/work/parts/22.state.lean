/-! THE MODEL'S ABSTRACT STATE -/
set_option maxRecDepth 100000
/-- number and flag of a held value -/
def hno (v : Int) : Int := if v < 0 then -1 - v else v
def hfg (v : Int) : Int := if v < 0 then 1 else 0
def hhd (x f : Int) : Int := if f = 0 then x else -1 - x
/-- cost of a cell of a table -/
def tC (m : Int) (h : Int → Int → Int) (i j : Int) : Int := if m ≤ j then 0 else if h i j < 0 then 1000 else h i j
/-- a table in two arrays -/
def TBm (w : Wd) (a b : Int) (h : Int → Int → Int) : Prop := ∀ i j : Int, 0 ≤ i → i < 7 → 0 ≤ j → j < 7 → (-100 ≤ h i j ∧ h i j ≤ 99) ∧ rdw w a (7 * i + j) = hno (h i j) ∧ rdw w b (7 * i + j) = hfg (h i j)
/-- the enumeration: steps, sum and place last come to, its columns -/
abbrev En : Type := Int × Int × Int × (Int → Int)
abbrev En.k (e : En) : Int := e.1
abbrev En.ls (e : En) : Int := e.2.1
abbrev En.lp (e : En) : Int := e.2.2.1
abbrev En.cu (e : En) : Int → Int := e.2.2.2
def En.off (e : En) : En := (-1, e.2)
def ENm (w : Wd) (mo : Int) (e : En) : Prop := (rdw w mo 18 = e.k ∧ rdw w mo 19 = e.ls ∧ rdw w mo 20 = e.lp) ∧ (-1 ≤ e.k ∧ e.k ≤ 5040) ∧ (-1 ≤ e.ls ∧ e.ls ≤ 1000000) ∧ (0 ≤ e.lp ∧ e.lp ≤ 5040) ∧ ∀ i : Int, 0 ≤ i → i < 7 → rdw w (mo + 9) i = e.cu i ∧ 0 ≤ e.cu i ∧ e.cu i ≤ 6
def SVm (w : Wd) (mo sn sm : Int) : Prop := (rdw w mo 2 = sn ∧ rdw w mo 3 = sm) ∧ 1 ≤ sm ∧ sm ≤ sn ∧ sn ≤ 7
def MM (E : Ev) (mo n m : Int) (h : Int → Int → Int) (sn sm : Int) (sh : Int → Int → Int) (e : En) (w : Wd) : Prop :=
  MI E mo n m w ∧ SVm w mo sn sm ∧ TBm w (mo + 1) (mo + 3) h ∧ TBm w (mo + 2) (mo + 4) sh ∧ ENm w mo e
/-- what is written without a change of the state -/
def zZ (mo a i : Int) : Prop := a = mo + 5 ∨ a = mo + 6 ∨ a = mo + 7 ∨ a = mo + 8 ∨ a = mo + 10 ∨ a = mo + 11 ∨ (a = mo ∧ (i = 4 ∨ 13 ≤ i ∧ i ≤ 17))
def zM (mo a _i : Int) : Prop := mo ≤ a ∧ a ≤ mo + 11
section ST
variable {E : Ev} {mo n m sn sm : Int} {h h' sh : Int → Int → Int} {e : En} {w w' : Wd} {a b : Int}
theorem TBm.fr {P : Int → Int → Prop} (H : TBm w a b h) (hF : Fr P w w') (ha : ∀ i, ¬ P a i) (hb : ∀ i, ¬ P b i) : TBm w' a b h := fun i j i0 i1 j0 j1 => by
  rw [hF.rd _ _ (ha _), hF.rd _ _ (hb _)]; exact H i j i0 i1 j0 j1
theorem TBm.cg (H : TBm w a b h) (hh : ∀ i j : Int, 0 ≤ i → i < 7 → 0 ≤ j → j < 7 → h' i j = h i j) : TBm w a b h' := fun i j i0 i1 j0 j1 => by
  rw [hh i j i0 i1 j0 j1]; exact H i j i0 i1 j0 j1
theorem TBm.bd (H : TBm w a b h) (i j : Int) (hi : 0 ≤ i ∧ i < 7) (hj : 0 ≤ j ∧ j < 7) : -100 ≤ h i j ∧ h i j ≤ 99 := (H i j hi.1 hi.2 hj.1 hj.2).1
theorem TBm.v (H : TBm w a b h) (i j : Int) (hi : 0 ≤ i ∧ i < 7) (hj : 0 ≤ j ∧ j < 7) : rdw w a (7 * i + j) = hno (h i j) := (H i j hi.1 hi.2 hj.1 hj.2).2.1
theorem TBm.g (H : TBm w a b h) (i j : Int) (hi : 0 ≤ i ∧ i < 7) (hj : 0 ≤ j ∧ j < 7) : rdw w b (7 * i + j) = hfg (h i j) := (H i j hi.1 hi.2 hj.1 hj.2).2.2
theorem TBm.up {c k x : Int} (H : TBm w a b h) (ha : c ≠ a) (hb : c ≠ b) : TBm (upw w c k x) a b h := fun i j i0 i1 j0 j1 => by
  rw [rd_up_ne (by omega), rd_up_ne (by omega)]; exact H i j i0 i1 j0 j1
/-- a write of a number, of a flag -/
theorem TBm.num {k x : Int} (H : TBm w a b h) (hab : a ≠ b) (hx : 0 ≤ x ∧ x ≤ 99) : TBm (upw w a k x) a b (fun i j => if 7 * i + j = k then hhd x (hfg (h i j)) else h i j) := fun i j i0 i1 j0 j1 => by
  have H1 := H i j i0 i1 j0 j1
  rw [rd_up_ne (a := a) (b := b) (by omega)]
  by_cases he : 7 * i + j = k
  · simp only [if_pos he]
    rw [rd_up_eq ⟨rfl, he⟩, H1.2.2]
    unfold hhd hfg hno
    refine ⟨?_, ?_, ?_⟩ <;> (repeat' split) <;> omega
  · simp only [if_neg he]
    rw [rd_up_ne (by omega)]; exact H1
theorem TBm.flag {k x : Int} (H : TBm w a b h) (hab : a ≠ b) (hx : x = 0 ∨ x = 1) : TBm (upw w b k x) a b (fun i j => if 7 * i + j = k then hhd (hno (h i j)) x else h i j) := fun i j i0 i1 j0 j1 => by
  have H1 := H i j i0 i1 j0 j1
  rw [rd_up_ne (a := b) (b := a) (by omega)]
  by_cases he : 7 * i + j = k
  · simp only [if_pos he]
    rw [rd_up_eq ⟨rfl, he⟩, H1.2.1]
    revert H1
    unfold hhd hfg hno
    intro H1
    refine ⟨?_, ?_, ?_⟩ <;> (repeat' split) <;> omega
  · simp only [if_neg he]
    rw [rd_up_ne (by omega)]; exact H1
theorem TBm.exch {r c r' c' : Int} (H : TBm w a b h) (hab : a ≠ b) (hr : 0 ≤ r ∧ r < 7) (hc : 0 ≤ c ∧ c < 7) (hr' : 0 ≤ r' ∧ r' < 7) (hc' : 0 ≤ c' ∧ c' < 7) :
    TBm (upw (upw (upw (upw w a (7 * r + c) (rdw w a (7 * r' + c'))) b (7 * r + c) (rdw w b (7 * r' + c'))) a (7 * r' + c') (rdw w a (7 * r + c))) b (7 * r' + c') (rdw w b (7 * r + c))) a b (fun i j => if i = r ∧ j = c then h r' c' else if i = r' ∧ j = c' then h r c else h i j) := fun i j i0 i1 j0 j1 => by
  have H1 := H i j i0 i1 j0 j1
  have H2 := H r c hr.1 hr.2 hc.1 hc.2
  have H3 := H r' c' hr'.1 hr'.2 hc'.1 hc'.2
  by_cases he : i = r ∧ j = c
  · simp only [if_pos he]
    by_cases hf : i = r' ∧ j = c'
    · have e1 : r = r' := by omega
      have e2 : c = c' := by omega
      subst e1; subst e2
      rw [rd_up_ne (by omega), rd_up_eq (by omega), rd_up_eq (by omega)]
      exact H2
    · rw [rd_up_ne (by omega), rd_up_ne (by omega), rd_up_ne (by omega), rd_up_eq (by omega), rd_up_ne (by omega), rd_up_ne (by omega), rd_up_eq (by omega)]
      exact H3
  · simp only [if_neg he]
    by_cases hf : i = r' ∧ j = c'
    · simp only [if_pos hf]
      rw [rd_up_ne (by omega), rd_up_eq (by omega), rd_up_eq (by omega)]
      exact H2
    · simp only [if_neg hf]
      rw [rd_up_ne (by omega), rd_up_ne (by omega), rd_up_ne (by omega), rd_up_ne (by omega), rd_up_ne (by omega), rd_up_ne (by omega), rd_up_ne (by omega), rd_up_ne (by omega)]
      exact H1
theorem ENm.fr {P : Int → Int → Prop} (H : ENm w mo e) (hF : Fr P w w') (ha : ∀ i, ¬ P (mo + 9) i) (hb : ∀ i, P mo i → i < 18 ∨ 20 < i) : ENm w' mo e := by
  refine ⟨⟨?_, ?_, ?_⟩, H.2.1, H.2.2.1, H.2.2.2.1, fun i h0 h1 => ?_⟩
  · rw [hF.rd _ _ (fun z => by have := hb _ z; omega)]; exact H.1.1
  · rw [hF.rd _ _ (fun z => by have := hb _ z; omega)]; exact H.1.2.1
  · rw [hF.rd _ _ (fun z => by have := hb _ z; omega)]; exact H.1.2.2
  · rw [hF.rd _ _ (ha i)]; exact H.2.2.2.2 i h0 h1
theorem ENm.step (H : ENm w mo e) : ENm (upw w mo 18 (-1)) mo e.off := by
  refine ⟨⟨rd_up_eq ⟨rfl, rfl⟩, ?_, ?_⟩, ⟨show (-1 : Int) ≤ -1 by omega, show (-1 : Int) ≤ 5040 by omega⟩, H.2.2.1, H.2.2.2.1, fun i h0 h1 => ?_⟩
  · rw [rd_up_ne (by omega)]; exact H.1.2.1
  · rw [rd_up_ne (by omega)]; exact H.1.2.2
  · rw [rd_up_ne (by omega)]; exact H.2.2.2.2 i h0 h1
theorem SVm.fr {P : Int → Int → Prop} (H : SVm w mo sn sm) (hF : Fr P w w') (hb : ∀ i, P mo i → i < 2 ∨ 3 < i) : SVm w' mo sn sm := by
  refine ⟨⟨?_, ?_⟩, H.2⟩
  · rw [hF.rd _ _ (fun z => by have := hb _ z; omega)]; exact H.1.1
  · rw [hF.rd _ _ (fun z => by have := hb _ z; omega)]; exact H.1.2
theorem MM.fr {P : Int → Int → Prop} (H : MM E mo n m h sn sm sh e w) (hF : Fr P w w') (hP : ∀ a i, P a i → zZ mo a i) : MM E mo n m h sn sm sh e w' :=
  ⟨H.1.fr hF (fun i z => by have := hP _ _ z; unfold zZ at this; omega), H.2.1.fr hF (fun i z => by have := hP _ _ z; unfold zZ at this; omega),
   H.2.2.1.fr hF (fun i z => by have := hP _ _ z; unfold zZ at this; omega) (fun i z => by have := hP _ _ z; unfold zZ at this; omega),
   H.2.2.2.1.fr hF (fun i z => by have := hP _ _ z; unfold zZ at this; omega) (fun i z => by have := hP _ _ z; unfold zZ at this; omega),
   H.2.2.2.2.fr hF (fun i z => by have := hP _ _ z; unfold zZ at this; omega) (fun i z => by have := hP _ _ z; unfold zZ at this; omega)⟩
theorem MM.frM {P : Int → Int → Prop} (H : MM E mo n m h sn sm sh e w) (hF : Fr P w w') (hP : ∀ a i, P a i → a < mo ∨ mo + 11 < a) : MM E mo n m h sn sm sh e w' :=
  ⟨H.1.fr hF (fun i z => by have := hP _ _ z; omega), H.2.1.fr hF (fun i z => by have := hP _ _ z; omega),
   H.2.2.1.fr hF (fun i z => by have := hP _ _ z; omega) (fun i z => by have := hP _ _ z; omega),
   H.2.2.2.1.fr hF (fun i z => by have := hP _ _ z; omega) (fun i z => by have := hP _ _ z; omega),
   H.2.2.2.2.fr hF (fun i z => by have := hP _ _ z; omega) (fun i z => by have := hP _ _ z; omega)⟩
theorem MM.thr {x : Int} (H : MM E mo n m h sn sm sh e w) : MM E mo n m h sn sm sh e (upw w mo 4 x) := H.fr (P := fun a i => a = mo ∧ i = 4) (Fr.rf.up ⟨rfl, rfl⟩) (fun a i z => by unfold zZ; omega)
theorem MM.num {k x : Int} (H : MM E mo n m h sn sm sh e w) (hx : 0 ≤ x ∧ x ≤ 99) : MM E mo n m (fun i j => if 7 * i + j = k then hhd x (hfg (h i j)) else h i j) sn sm sh e (upw w (mo + 1) k x) :=
  have hF : Fr (fun a _ => a = mo + 1) w (upw w (mo + 1) k x) := Fr.rf.up rfl
  ⟨H.1.fr hF (fun i z => by omega), H.2.1.fr hF (fun i z => by omega), H.2.2.1.num (by omega) hx, H.2.2.2.1.up (by omega) (by omega), H.2.2.2.2.fr hF (fun i z => by omega) (fun i z => by omega)⟩
theorem MM.flag {k x : Int} (H : MM E mo n m h sn sm sh e w) (hx : x = 0 ∨ x = 1) : MM E mo n m (fun i j => if 7 * i + j = k then hhd (hno (h i j)) x else h i j) sn sm sh e (upw w (mo + 3) k x) :=
  have hF : Fr (fun a _ => a = mo + 3) w (upw w (mo + 3) k x) := Fr.rf.up rfl
  ⟨H.1.fr hF (fun i z => by omega), H.2.1.fr hF (fun i z => by omega), H.2.2.1.flag (by omega) hx, H.2.2.2.1.up (by omega) (by omega), H.2.2.2.2.fr hF (fun i z => by omega) (fun i z => by omega)⟩
theorem MM.snum {k x : Int} (H : MM E mo n m h sn sm sh e w) (hx : 0 ≤ x ∧ x ≤ 99) : MM E mo n m h sn sm (fun i j => if 7 * i + j = k then hhd x (hfg (sh i j)) else sh i j) e (upw w (mo + 2) k x) :=
  have hF : Fr (fun a _ => a = mo + 2) w (upw w (mo + 2) k x) := Fr.rf.up rfl
  ⟨H.1.fr hF (fun i z => by omega), H.2.1.fr hF (fun i z => by omega), H.2.2.1.up (by omega) (by omega), H.2.2.2.1.num (by omega) hx, H.2.2.2.2.fr hF (fun i z => by omega) (fun i z => by omega)⟩
theorem MM.sflag {k x : Int} (H : MM E mo n m h sn sm sh e w) (hx : x = 0 ∨ x = 1) : MM E mo n m h sn sm (fun i j => if 7 * i + j = k then hhd (hno (sh i j)) x else sh i j) e (upw w (mo + 4) k x) :=
  have hF : Fr (fun a _ => a = mo + 4) w (upw w (mo + 4) k x) := Fr.rf.up rfl
  ⟨H.1.fr hF (fun i z => by omega), H.2.1.fr hF (fun i z => by omega), H.2.2.1.up (by omega) (by omega), H.2.2.2.1.flag (by omega) hx, H.2.2.2.2.fr hF (fun i z => by omega) (fun i z => by omega)⟩
theorem MM.off (H : MM E mo n m h sn sm sh e w) : MM E mo n m h sn sm sh e.off (upw w mo 18 (-1)) :=
  have hF : Fr (fun a i => a = mo ∧ i = 18) w (upw w mo 18 (-1)) := Fr.rf.up ⟨rfl, rfl⟩
  ⟨H.1.fr hF (fun i z => by omega), H.2.1.fr hF (fun i z => by omega), H.2.2.1.fr hF (fun i z => by omega) (fun i z => by omega), H.2.2.2.1.fr hF (fun i z => by omega) (fun i z => by omega), H.2.2.2.2.step⟩
theorem MM.nm {x y : Int} (H : MM E mo n m h sn sm sh e w) (hb : 1 ≤ y ∧ y ≤ x ∧ x ≤ 7) : MM E mo x y h sn sm sh e (upw (upw w mo 0 x) mo 1 y) := by
  have hF : Fr (fun a i => a = mo ∧ (i = 0 ∨ i = 1)) w (upw (upw w mo 0 x) mo 1 y) := (Fr.rf.up ⟨rfl, Or.inl rfl⟩).up ⟨rfl, Or.inr rfl⟩
  refine ⟨⟨⟨H.1.hb, by rw [hF.kd]; exact H.1.hk, fun k h1 h2 => by rw [hF.kd, hF.ln]; exact H.1.1.2.2 k h1 h2⟩, fun f hf => by rw [hF.rd _ _ (by omega)]; exact H.1.2.1 f hf, ?_, ?_, hb⟩, H.2.1.fr hF (fun i z => by omega), H.2.2.1.fr hF (fun i z => by omega) (fun i z => by omega), H.2.2.2.1.fr hF (fun i z => by omega) (fun i z => by omega), H.2.2.2.2.fr hF (fun i z => by omega) (fun i z => by omega)⟩
  · rw [rd_up_ne (by omega), rd_up_eq ⟨rfl, rfl⟩]
  · rw [rd_up_eq ⟨rfl, rfl⟩]
theorem MM.snm {x y : Int} (H : MM E mo n m h sn sm sh e w) (hb : 1 ≤ y ∧ y ≤ x ∧ x ≤ 7) : MM E mo n m h x y sh e (upw (upw w mo 2 x) mo 3 y) := by
  have hF : Fr (fun a i => a = mo ∧ (i = 2 ∨ i = 3)) w (upw (upw w mo 2 x) mo 3 y) := (Fr.rf.up ⟨rfl, Or.inl rfl⟩).up ⟨rfl, Or.inr rfl⟩
  refine ⟨H.1.fr hF (fun i z => by omega), ⟨⟨?_, ?_⟩, hb⟩, H.2.2.1.fr hF (fun i z => by omega) (fun i z => by omega), H.2.2.2.1.fr hF (fun i z => by omega) (fun i z => by omega), H.2.2.2.2.fr hF (fun i z => by omega) (fun i z => by omega)⟩
  · rw [rd_up_ne (by omega), rd_up_eq ⟨rfl, rfl⟩]
  · rw [rd_up_eq ⟨rfl, rfl⟩]
theorem MM.cg (H : MM E mo n m h sn sm sh e w) (hh : ∀ i j : Int, 0 ≤ i → i < 7 → 0 ≤ j → j < 7 → h' i j = h i j) : MM E mo n m h' sn sm sh e w := ⟨H.1, H.2.1, H.2.2.1.cg hh, H.2.2.2⟩
theorem MM.scg (H : MM E mo n m h sn sm sh e w) (hh : ∀ i j : Int, 0 ≤ i → i < 7 → 0 ≤ j → j < 7 → h' i j = sh i j) : MM E mo n m h sn sm h' e w := ⟨H.1, H.2.1, H.2.2.1, H.2.2.2.1.cg hh, H.2.2.2.2⟩
theorem MM.hb (H : MM E mo n m h sn sm sh e w) (i j : Int) (hi : 0 ≤ i ∧ i < 7) (hj : 0 ≤ j ∧ j < 7) : -100 ≤ h i j ∧ h i j ≤ 99 := H.2.2.1.bd i j hi hj
theorem MM.shb (H : MM E mo n m h sn sm sh e w) (i j : Int) (hi : 0 ≤ i ∧ i < 7) (hj : 0 ≤ j ∧ j < 7) : -100 ≤ sh i j ∧ sh i j ≤ 99 := H.2.2.2.1.bd i j hi hj
/-- what an operation that may refuse leaves -/
def mP (mo : Int) (w : Wd) (K R : Int) (new old : Wd → Prop) (r : Int) (w' : Wd) : Prop := Fr (zM mo) w w' ∧ rdw w' mo 4 = K ∧ (K = 0 → new w' ∧ r = R) ∧ (K ≠ 0 → old w')
theorem mP.bad {K R r c : Int} {new old : Wd → Prop} (hW : Fr (zM mo) w w') (h4 : rdw w' mo 4 = c) (hc : c ≠ 0) (hK : K = c) (ho : old w') : mP mo w K R new old r w' :=
  ⟨hW, by rw [h4, hK], fun z => absurd z (by omega), fun _ => ho⟩
theorem mP.ok {K R r : Int} {new old : Wd → Prop} (hW : Fr (zM mo) w w') (h4 : rdw w' mo 4 = 0) (hK : K = 0) (hn : new w') (hr : r = R) : mP mo w K R new old r w' :=
  ⟨hW, by rw [h4, hK], fun _ => ⟨hn, hr⟩, fun z => absurd hK z⟩
theorem c_m_wrong {c : Int} (hM : MM E mo n m h sn sm sh e w) (hc : -2147483648 ≤ c ∧ c ≤ 2147483647) : Call E mX4_isWrong 0 0 0 [vR mo, vI c] w (qI (fun r w' => MM E mo n m h sn sm sh e w' ∧ Fr (zM mo) w w' ∧ (∀ a i, ¬ (a = mo ∧ i = 4) → rdw w' a i = rdw w a i) ∧ rdw w' mo 4 = c ∧ r = if c = 0 then 0 else 1)) := by
  refine (c_m_isWrong hM.1 hc).imp (fun o v w1 hq => ?_)
  obtain ⟨rfl, rfl, rfl⟩ := hq
  exact ⟨rfl, _, rfl, hM.thr, Fr.rf.up (by unfold zM; omega), fun a i hn => rd_up_ne hn, rd_up_eq ⟨rfl, rfl⟩, rfl⟩
theorem MM.fb (H : MM E mo n m h sn sm sh e w) (k : Int) (k0 : 0 ≤ k) (k1 : k < 49) : rdw w (mo + 3) k = 0 ∨ rdw w (mo + 3) k = 1 := by
  have := H.2.2.1.g (k / 7) (k % 7) (by omega) (by omega)
  rw [show 7 * (k / 7) + k % 7 = k by omega] at this
  rw [this]; unfold hfg; split <;> simp
theorem TBm.mc (H : TBm w (mo + 1) (mo + 3) h) (hm : rdw w mo 1 = m) {i j : Int} (hi : 0 ≤ i ∧ i < 7) (hj : 0 ≤ j ∧ j < 7) : mcost w mo i j = tC m h i j := by
  unfold mcost tC
  rw [H.v i j hi hj, H.g i j hi hj, hm]
  unfold hfg hno
  repeat' split
  all_goals first | rfl | omega
theorem TBm.sc (H : TBm w (mo + 2) (mo + 4) h) (hm : rdw w mo 3 = m) {i j : Int} (hi : 0 ≤ i ∧ i < 7) (hj : 0 ≤ j ∧ j < 7) : mscost w mo i j = tC m h i j := by
  unfold mscost tC
  rw [H.v i j hi hj, H.g i j hi hj, hm]
  unfold hfg hno
  repeat' split
  all_goals first | rfl | omega
theorem tC_b (hh : -100 ≤ h a b ∧ h a b ≤ 99) : 0 ≤ tC m h a b ∧ tC m h a b ≤ 1000 := by
  unfold tC; repeat' split
  all_goals omega
theorem c_m_costT {i j : Int} (H : MM E mo n m h sn sm sh e w) (hi : 0 ≤ i ∧ i < 7) (hj : 0 ≤ j ∧ j < 7) : Call E mX4_cost 0 0 0 [vR mo, vI i, vI j] w (qE (tC m h i j) w) := by
  have h1 := c_m_cost H.1 hi hj H.fb
  rw [H.2.2.1.mc H.1.vm hi hj] at h1
  exact h1
end ST
theorem zZ_zM {mo a i : Int} (h : zZ mo a i) : zM mo a i := by unfold zZ at h; unfold zM; omega
/-- sums -/
def sm' : Nat → (Int → Int) → Int
  | 0, _ => 0
  | k + 1, f => sm' k f + f k
theorem sm_cg {f g : Int → Int} : ∀ {k : Nat}, (∀ i : Int, 0 ≤ i → i < k → f i = g i) → sm' k f = sm' k g
  | 0, _ => rfl
  | k + 1, h => by
    show sm' k f + f k = sm' k g + g k
    rw [sm_cg (k := k) (fun i h0 h1 => h i h0 (by omega)), h k (by omega) (by omega)]
theorem sm_b {f : Int → Int} {B : Int} : ∀ {k : Nat}, (∀ i : Int, 0 ≤ i → i < k → 0 ≤ f i ∧ f i ≤ B) → 0 ≤ sm' k f ∧ sm' k f ≤ k * B
  | 0, _ => by simp [sm']
  | k + 1, h => by
    have h1 := sm_b (k := k) (fun i h0 h1 => h i h0 (by omega))
    have h2 := h k (by omega) (by omega)
    show 0 ≤ sm' k f + f k ∧ sm' k f + f k ≤ ((k + 1 : Nat) : Int) * B
    have h3 : ((k + 1 : Nat) : Int) * B = k * B + B := by push_cast; rw [Int.add_mul, Int.one_mul]
    omega
theorem sm_s {f : Int → Int} {i : Int} (h : 0 ≤ i) : sm' (i + 1).toNat f = sm' i.toNat f + f i := by
  rw [show (i + 1).toNat = i.toNat + 1 by omega]
  show sm' i.toNat f + f (i.toNat : Int) = _
  rw [Int.toNat_of_nonneg h]
