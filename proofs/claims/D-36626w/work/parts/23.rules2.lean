/-! DIVISION, remainder; a running state's steps -/
set_option maxRecDepth 100000
theorem i32_div {x y : Int} (hx : -2147483648 ≤ x ∧ x ≤ 2147483647) (hy : 0 < y ∧ y ≤ 2147483647) : Int32.ofInt x / Int32.ofInt y = Int32.ofInt (x.tdiv y) :=
  (Int32.ofInt_tdiv (by simpa using hx.1) (by rw [show Int32.maxValue.toInt = 2147483647 by decide]; omega) (by simp; omega) (by rw [show Int32.maxValue.toInt = 2147483647 by decide]; omega)).symm
theorem i64_div {x y : Int} (hx : -9223372036854775808 ≤ x ∧ x ≤ 9223372036854775807) (hy : 0 < y ∧ y ≤ 9223372036854775807) : Int64.ofInt x / Int64.ofInt y = Int64.ofInt (x.tdiv y) :=
  (Int64.ofInt_tdiv (by simpa using hx.1) (by rw [show Int64.maxValue.toInt = 9223372036854775807 by decide]; omega) (by simp; omega) (by rw [show Int64.maxValue.toInt = 9223372036854775807 by decide]; omega)).symm
theorem i32_nz {y : Int} (hy : 0 < y ∧ y ≤ 2147483647) : ¬ Int32.ofInt y = 0 := by
  intro h
  have := congrArg Int32.toInt h
  rw [Int32.toInt_ofInt_of_le (by simp; omega) (by simp; omega)] at this
  simp at this; omega
theorem i64_nz {y : Int} (hy : 0 < y ∧ y ≤ 9223372036854775807) : ¬ Int64.ofInt y = 0 := by
  intro h
  have := congrArg Int64.toInt h
  rw [Int64.toInt_ofInt_of_le (by simp; omega) (by simp; omega)] at this
  simp at this; omega
section R2
variable {X : Cx} {E : Ev} {own : String} {cc : ByteArray} {nL d bc bs : Nat} {w : Wd} {pc pc' : Nat} {lv : List (Nat × Int)} {st : List Value}
theorem g_idivT {x y : Int} (h : Ok X E own cc nL d) (dg : decode cc pc = .ok (.idiv, 1)) (hx : -2147483648 ≤ x ∧ x ≤ 2147483647) (hy : 0 < y ∧ y ≤ 2147483647) (hp : pc + 1 = pc') (k : GG X bc bs w pc' lv (vI (x.tdiv y) :: st)) : GG X bc bs w pc lv (vI y :: vI x :: st) :=
  g_idiv _ h dg ⟨i32_nz hy, i32_div hx hy⟩ hp k
theorem g_ldivT {x y : Int} (h : Ok X E own cc nL d) (dg : decode cc pc = .ok (.ldiv, 1)) (hx : -9223372036854775808 ≤ x ∧ x ≤ 9223372036854775807) (hy : 0 < y ∧ y ≤ 9223372036854775807) (hp : pc + 1 = pc') (k : GG X bc bs w pc' lv (vL (x.tdiv y) :: st)) : GG X bc bs w pc lv (vL y :: vL x :: st) :=
  g_ldiv _ h dg ⟨i64_nz hy, i64_div hx hy⟩ hp k
theorem g_iremT {x y : Int} (h : Ok X E own cc nL d) (dg : decode cc pc = .ok (.irem, 1)) (hx : -2147483648 ≤ x ∧ x ≤ 2147483647) (hy : 0 < y ∧ y ≤ 2147483647) (hp : pc + 1 = pc') (k : GG X bc bs w pc' lv (vI (x.tmod y) :: st)) : GG X bc bs w pc lv (vI y :: vI x :: st) :=
  g_irem _ h dg ⟨i32_nz hy, by rw [i32_div hx hy, ← Int32.ofInt_mul, ← Int32.ofInt_sub, Int.tmod_def, Int.mul_comm]⟩ hp k
theorem g_lremT {x y : Int} (h : Ok X E own cc nL d) (dg : decode cc pc = .ok (.lrem, 1)) (hx : -9223372036854775808 ≤ x ∧ x ≤ 9223372036854775807) (hy : 0 < y ∧ y ≤ 9223372036854775807) (hp : pc + 1 = pc') (k : GG X bc bs w pc' lv (vL (x.tmod y) :: st)) : GG X bc bs w pc lv (vL y :: vL x :: st) :=
  g_lrem _ h dg ⟨i64_nz hy, by rw [i64_div hx hy, ← Int64.ofInt_mul, ← Int64.ofInt_sub, Int.tmod_def, Int.mul_comm]⟩ hp k
theorem g_idivP {x y : Int} (h : Ok X E own cc nL d) (dg : decode cc pc = .ok (.idiv, 1)) (hx : 0 ≤ x ∧ x ≤ 2147483647) (hy : 0 < y ∧ y ≤ 2147483647) (hp : pc + 1 = pc') (k : GG X bc bs w pc' lv (vI (x / y) :: st)) : GG X bc bs w pc lv (vI y :: vI x :: st) :=
  g_idivT h dg (by omega) hy hp (by rw [Int.tdiv_eq_ediv_of_nonneg hx.1]; exact k)
theorem g_ldivP {x y : Int} (h : Ok X E own cc nL d) (dg : decode cc pc = .ok (.ldiv, 1)) (hx : 0 ≤ x ∧ x ≤ 9223372036854775807) (hy : 0 < y ∧ y ≤ 9223372036854775807) (hp : pc + 1 = pc') (k : GG X bc bs w pc' lv (vL (x / y) :: st)) : GG X bc bs w pc lv (vL y :: vL x :: st) :=
  g_ldivT h dg (by omega) hy hp (by rw [Int.tdiv_eq_ediv_of_nonneg hx.1]; exact k)
theorem g_iremP {x y : Int} (h : Ok X E own cc nL d) (dg : decode cc pc = .ok (.irem, 1)) (hx : 0 ≤ x ∧ x ≤ 2147483647) (hy : 0 < y ∧ y ≤ 2147483647) (hp : pc + 1 = pc') (k : GG X bc bs w pc' lv (vI (x % y) :: st)) : GG X bc bs w pc lv (vI y :: vI x :: st) :=
  g_iremT h dg (by omega) hy hp (by rw [Int.tmod_eq_emod_of_nonneg hx.1]; exact k)
theorem g_lremP {x y : Int} (h : Ok X E own cc nL d) (dg : decode cc pc = .ok (.lrem, 1)) (hx : 0 ≤ x ∧ x ≤ 9223372036854775807) (hy : 0 < y ∧ y ≤ 9223372036854775807) (hp : pc + 1 = pc') (k : GG X bc bs w pc' lv (vL (x % y) :: st)) : GG X bc bs w pc lv (vL y :: vL x :: st) :=
  g_lremT h dg (by omega) hy hp (by rw [Int.tmod_eq_emod_of_nonneg hx.1]; exact k)
end R2
/-- all that a refusing operation may write but its code -/
def zB (mo a i : Int) : Prop := mo ≤ a ∧ a ≤ mo + 11 ∧ ¬ (a = mo ∧ i = 4)
theorem zB_zM {mo a i : Int} (h : zB mo a i) : zM mo a i := ⟨h.1, h.2.1⟩
section ST2
variable {X : Cx} {bc bs pc : Nat} {lv : List (Nat × Int)} {st : List Value} {E : Ev} {mo n m sn sm : Int} {h h' sh : Int → Int → Int} {e : En} {w w0 w' : Wd} {P : Int → Int → Prop}
theorem MM.stN {k x : Int} (H : MM E mo n m h sn sm sh e w) (hF : Fr P w0 w) (hx : 0 ≤ x ∧ x ≤ 99) (hp : P (mo + 1) k) (K : MM E mo n m (fun i j => if 7 * i + j = k then hhd x (hfg (h i j)) else h i j) sn sm sh e (upw w (mo + 1) k x) → Fr P w0 (upw w (mo + 1) k x) → GG X bc bs (upw w (mo + 1) k x) pc lv st) : GG X bc bs (upw w (mo + 1) k x) pc lv st := K (H.num hx) (hF.up hp)
theorem MM.stF {k x : Int} (H : MM E mo n m h sn sm sh e w) (hF : Fr P w0 w) (hx : x = 0 ∨ x = 1) (hp : P (mo + 3) k) (K : MM E mo n m (fun i j => if 7 * i + j = k then hhd (hno (h i j)) x else h i j) sn sm sh e (upw w (mo + 3) k x) → Fr P w0 (upw w (mo + 3) k x) → GG X bc bs (upw w (mo + 3) k x) pc lv st) : GG X bc bs (upw w (mo + 3) k x) pc lv st := K (H.flag hx) (hF.up hp)
theorem MM.stSN {k x : Int} (H : MM E mo n m h sn sm sh e w) (hF : Fr P w0 w) (hx : 0 ≤ x ∧ x ≤ 99) (hp : P (mo + 2) k) (K : MM E mo n m h sn sm (fun i j => if 7 * i + j = k then hhd x (hfg (sh i j)) else sh i j) e (upw w (mo + 2) k x) → Fr P w0 (upw w (mo + 2) k x) → GG X bc bs (upw w (mo + 2) k x) pc lv st) : GG X bc bs (upw w (mo + 2) k x) pc lv st := K (H.snum hx) (hF.up hp)
theorem MM.stSF {k x : Int} (H : MM E mo n m h sn sm sh e w) (hF : Fr P w0 w) (hx : x = 0 ∨ x = 1) (hp : P (mo + 4) k) (K : MM E mo n m h sn sm (fun i j => if 7 * i + j = k then hhd (hno (sh i j)) x else sh i j) e (upw w (mo + 4) k x) → Fr P w0 (upw w (mo + 4) k x) → GG X bc bs (upw w (mo + 4) k x) pc lv st) : GG X bc bs (upw w (mo + 4) k x) pc lv st := K (H.sflag hx) (hF.up hp)
theorem MM.stO (H : MM E mo n m h sn sm sh e w) (hF : Fr P w0 w) (hp : P mo 18) (K : MM E mo n m h sn sm sh e.off (upw w mo 18 (-1)) → Fr P w0 (upw w mo 18 (-1)) → GG X bc bs (upw w mo 18 (-1)) pc lv st) : GG X bc bs (upw w mo 18 (-1)) pc lv st := K H.off (hF.up hp)
theorem MM.stZ {a i x : Int} (H : MM E mo n m h sn sm sh e w) (hF : Fr P w0 w) (hz : zZ mo a i) (hp : P a i) (K : MM E mo n m h sn sm sh e (upw w a i x) → Fr P w0 (upw w a i x) → GG X bc bs (upw w a i x) pc lv st) : GG X bc bs (upw w a i x) pc lv st := K (H.fr (P := fun b j => b = a ∧ j = i) (Fr.rf.up ⟨rfl, rfl⟩) (fun b j z => by rw [z.1, z.2]; exact hz)) (hF.up hp)
theorem mP.okB {w1 : Wd} {K R r : Int} {new old : Wd → Prop} (hA : Fr (zM mo) w w1) (hB : Fr (zB mo) w1 w') (h4 : rdw w1 mo 4 = 0) (hK : K = 0) (hn : new w') (hr : r = R) : mP mo w K R new old r w' :=
  mP.ok (hA.tr (hB.wk (fun _ _ z => zB_zM z))) ((hB.rd _ _ (fun z => z.2.2 ⟨rfl, rfl⟩)).trans h4) hK hn hr
end ST2
theorem hhd_id {v : Int} : hhd (hno v) (hfg v) = v := by
  unfold hhd hno hfg; repeat' split
  all_goals omega
theorem hno_b {v : Int} (h : -100 ≤ v ∧ v ≤ 99) : 0 ≤ hno v ∧ hno v ≤ 99 := by
  unfold hno; split <;> omega
theorem hfg_b {v : Int} : hfg v = 0 ∨ hfg v = 1 := by unfold hfg; split <;> simp
theorem hno_hd {x f : Int} (h : 0 ≤ x) : hno (hhd x f) = x := by unfold hno hhd; repeat' split
                                                                 all_goals omega
theorem hfg_hd {x f : Int} (h : 0 ≤ x) (hf : f = 0 ∨ f = 1) : hfg (hhd x f) = f := by unfold hfg hhd; repeat' split
                                                                                      all_goals omega
