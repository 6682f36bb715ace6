/-! THE WORLD: the cells that the program can reach, their contents as whole numbers; one goal form (GG) for every method; contracts (Call) -/
set_option maxRecDepth 100000
abbrev Wd : Type := (Int → Int → Int) × (Int → Nat) × (Int → Int) × Int
def rdw (w : Wd) (a i : Int) : Int := w.1 a i
def kdw (w : Wd) (a : Int) : Nat := w.2.1 a
def lnw (w : Wd) (a : Int) : Int := w.2.2.1 a
def szw (w : Wd) : Int := w.2.2.2
def upw (w : Wd) (a i v : Int) : Wd := (fun b j => if b = a ∧ j = i then v else w.1 b j, w.2)
def alw (w : Wd) (k : Nat) (n : Int) (f : Int → Int) : Wd :=
  (fun b j => if b = szw w then f j else w.1 b j, fun b => if b = szw w then k else w.2.1 b, fun b => if b = szw w then n else w.2.2.1 b, szw w + 1)
/-- the same cells, more addresses taken by what nobody names -/
def szU (w : Wd) (n : Int) : Wd := (w.1, w.2.1, w.2.2.1, n)
theorem rd_up {w : Wd} {a i v b j : Int} : rdw (upw w a i v) b j = if b = a ∧ j = i then v else rdw w b j := rfl
theorem kd_up {w : Wd} {a i v b : Int} : kdw (upw w a i v) b = kdw w b := rfl
theorem ln_up {w : Wd} {a i v b : Int} : lnw (upw w a i v) b = lnw w b := rfl
theorem sz_up {w : Wd} {a i v : Int} : szw (upw w a i v) = szw w := rfl
theorem rd_al {w : Wd} {k : Nat} {n : Int} {f : Int → Int} {b j : Int} : rdw (alw w k n f) b j = if b = szw w then f j else rdw w b j := rfl
theorem kd_al {w : Wd} {k : Nat} {n : Int} {f : Int → Int} {b : Int} : kdw (alw w k n f) b = if b = szw w then k else kdw w b := rfl
theorem ln_al {w : Wd} {k : Nat} {n : Int} {f : Int → Int} {b : Int} : lnw (alw w k n f) b = if b = szw w then n else lnw w b := rfl
theorem sz_al {w : Wd} {k : Nat} {n : Int} {f : Int → Int} : szw (alw w k n f) = szw w + 1 := rfl
theorem rd_szU {w : Wd} {n a i : Int} : rdw (szU w n) a i = rdw w a i := rfl
theorem kd_szU {w : Wd} {n a : Int} : kdw (szU w n) a = kdw w a := rfl
theorem ln_szU {w : Wd} {n a : Int} : lnw (szU w n) a = lnw w a := rfl
theorem sz_szU {w : Wd} {n : Int} : szw (szU w n) = n := rfl
/-! values out of whole numbers -/
def vI (x : Int) : Value := .int (Int32.ofInt x)
def vL (x : Int) : Value := .long (Int64.ofInt x)
def vF (x : Int) : Value := .float (UInt32.ofNat x.toNat)
def vD (x : Int) : Value := .double (UInt64.ofNat x.toNat)
def ro (r : Int) : Option Nat := if r < 0 then none else some r.toNat
def vR (r : Int) : Value := va_rf (ro r)
theorem vR_pos {r : Int} (h : 0 ≤ r) : vR r = .ref r.toNat := by
  have h1 : ¬ r < 0 := by omega
  simp [vR, ro, h1, va_rf]
theorem vR_neg {r : Int} (h : r < 0) : vR r = .null := by simp [vR, ro, h, va_rf]
theorem vR_nat (a : Nat) : vR (a : Int) = .ref a := by
  rw [vR_pos (by omega)]; simp
theorem vI_cat (x : Int) : (vI x).category = 1 := rfl
theorem vL_cat (x : Int) : (vL x).category = 2 := rfl
theorem vF_cat (x : Int) : (vF x).category = 1 := rfl
theorem vD_cat (x : Int) : (vD x).category = 2 := rfl
theorem vR_cat (r : Int) : (vR r).category = 1 := by
  unfold vR
  cases ro r <;> rfl
theorem cat_le2 (v : Value) : v.category ≤ 2 := by cases v <;> simp [Value.category]
theorem cats_le : ∀ st : List Value, (st.map fun v => v.category).sum ≤ 2 * st.length := by
  intro st
  induction st with
  | nil => simp
  | cons a l ih =>
    have h := cat_le2 a
    simp only [List.map_cons, List.sum_cons, List.length_cons]
    omega
def tv : FieldType → Int → Value
  | .long, x => vL x
  | .float, x => vF x
  | .double, x => vD x
  | .object _, x => vR x
  | .array _, x => vR x
  | _, x => vI x
/-- what a new place of the type holds -/
def dv : FieldType → Int
  | .object _ => -1
  | .array _ => -1
  | _ => 0
theorem tv_dv (t : FieldType) : tv t (dv t) = defaultValue t := by
  cases t <;> first | rfl | decide
/-! the classes: kind k of a cell is 1 + the class's place here; 50 + t an array of the t-th type, from 55 on arrays of references -/
def T0_ : u_T := fun _ => ("", "", "", false)
def GC : List vw_C := [(RX1, TX1, 26), (RX4, TX4, 24), (RX5, TX5, 3), (RX6, TX6, 4), (RX2, T0_, 0), (RX3, T0_, 0), (RJ2, TJ2, 3), (RJ19, TJ19, 4), (RJ9, TJ9, 4), (RJ4, TJ4, 1)]
def ft (k : Nat) : Nat → FieldType := match k with
  | 1 => tyX1
  | 2 => tyX4
  | 3 => tyX5
  | 4 => tyX6
  | 7 => tyJ2
  | 8 => tyJ19
  | 9 => tyJ9
  | 10 => tyJ4
  | _ => fun _ => .int
def aF : Nat → FieldType
  | 0 => .int
  | 1 => .boolean
  | 2 => .long
  | 3 => .double
  | 4 => .array .int
  | 6 => .object "java/lang/Integer"
  | _ => .object "java/lang/Object"
def ak (k : Nat) : Nat := if k = 49 then 6 else if 55 ≤ k then 5 else k - 50
def aT (k : Nat) : FieldType := aF (ak k)
theorem T0_none (C : String) : ∀ w ∈ u_ws C T0_ 0, w ∈ lw_all := fun w h => absurd h (by simp [u_ws])
theorem GC_ok {ci : Nat} {q : vw_C} (h : GC[ci]? = some q) : (∀ w ∈ u_ws q.1 q.2.1 q.2.2, w ∈ lw_all) ∧ (∀ k, k < q.2.2 → parseFieldDescriptor (q.2.1 k).2.2.1 = some (ft (ci + 1) k)) ∧ (∀ a, a < q.2.2 → ∀ b, b < q.2.2 → a ≠ b → (q.2.1 a).2.1 ≠ (q.2.1 b).2.1) := by
  match ci, h with
  | 0, h => cases h; exact ⟨in_X1, tyX1_ok, nmX1⟩
  | 1, h => cases h; exact ⟨in_X4, tyX4_ok, nmX4⟩
  | 2, h => cases h; exact ⟨in_X5, tyX5_ok, nmX5⟩
  | 3, h => cases h; exact ⟨in_X6, tyX6_ok, nmX6⟩
  | 4, h => cases h; exact ⟨T0_none _, fun k hk => absurd hk (Nat.not_lt_zero k), fun a ha => absurd ha (Nat.not_lt_zero a)⟩
  | 5, h => cases h; exact ⟨T0_none _, fun k hk => absurd hk (Nat.not_lt_zero k), fun a ha => absurd ha (Nat.not_lt_zero a)⟩
  | 6, h => cases h; exact ⟨in_J2, tyJ2_ok, nmJ2⟩
  | 7, h => cases h; exact ⟨in_J19, tyJ19_ok, nmJ19⟩
  | 8, h => cases h; exact ⟨in_J9, tyJ9_ok, nmJ9⟩
  | 9, h => cases h; exact ⟨in_J4, tyJ4_ok, nmJ4⟩
  | n + 10, h => simp [GC] at h
/-! what is the same all through a run: launch, class numbers and slots, array classes, the first address of ours, the empty array, the cache of Integers -/
abbrev Ev : Type := Launch × va_G × (Nat → ClassId) × Nat × Nat × Nat
abbrev eL (E : Ev) : Launch := E.1
abbrev eD (E : Ev) : va_G := E.2.1
abbrev eA (E : Ev) : Nat → ClassId := E.2.2.1
abbrev eB (E : Ev) : Nat := E.2.2.2.1
abbrev eC (E : Ev) : Nat := E.2.2.2.2.1
abbrev eI (E : Ev) : Nat := E.2.2.2.2.2
/-- the mirror of Object[] -/
abbrev eM (E : Ev) : Nat := E.2.2.1 100
abbrev bA (E : Ev) : Nat → Prop := fun q => eB E ≤ q
def wAt (E : Ev) (k : Nat) (n : Int) (f : Int → Int) (a : Nat) (H : Heap) : Prop :=
  if k < 49 then ∃ r : vw_C, GC[k - 1]? = some r ∧ t_OB a ((eD E).1 (k - 1)) r.2.2 ((eD E).2 (k - 1)) H (fun j => tv (ft k j) (f j))
  else H[a]? = some (arrV (eA E (ak k)) n.toNat (fun j => tv (aT k) (f j)))
def wRep (E : Ev) (w : Wd) (H : Heap) : Prop := (H.size : Int) = szw w ∧ ∀ a : Nat, kdw w a ≠ 0 → wAt E (kdw w a) (lnw w a) (rdw w a) a H
theorem wAt_kept {E : Ev} {k : Nat} {n : Int} {f : Int → Int} {a : Nat} {H H1 : Heap} (h : wAt E k n f a H) (hq : H1[a]? = H[a]?) : wAt E k n f a H1 := by
  unfold wAt at h ⊢
  split at h
  · rename_i hk
    rw [if_pos hk]
    obtain ⟨r, h1, h2⟩ := h
    exact ⟨r, h1, h2.kept hq⟩
  · rename_i hk
    rw [if_neg hk, hq]
    exact h
theorem wAt_lt {E : Ev} {k : Nat} {n : Int} {f : Int → Int} {a : Nat} {H : Heap} (h : wAt E k n f a H) : a < H.size := by
  unfold wAt at h
  split at h
  · obtain ⟨r, -, cell, h1, -⟩ := h
    exact (Array.getElem?_eq_some_iff.mp h1).1
  · exact (Array.getElem?_eq_some_iff.mp h).1
/-- an object's place in the world -/
theorem wRep_obj {E : Ev} {w : Wd} {H : Heap} (h : wRep E w H) {a : Int} (h0 : 0 ≤ a) {k : Nat} (hk : kdw w a = k + 1) (h50 : k + 1 < 49) {r : vw_C} (hr : GC[k]? = some r) :
    t_OB a.toNat ((eD E).1 k) r.2.2 ((eD E).2 k) H (fun j => tv (ft (k + 1) j) (rdw w a j)) := by
  have ha : ((a.toNat : Nat) : Int) = a := Int.toNat_of_nonneg h0
  have h1 := h.2 a.toNat (by rw [ha, hk]; omega)
  rw [ha, hk] at h1
  unfold wAt at h1
  rw [if_pos h50] at h1
  obtain ⟨r', h2, h3⟩ := h1
  cases hr.symm.trans h2
  exact h3
theorem wRep_arr {E : Ev} {w : Wd} {H : Heap} (h : wRep E w H) {a : Int} (h0 : 0 ≤ a) (h50 : 49 ≤ kdw w a) :
    H[a.toNat]? = some (arrV (eA E (ak (kdw w a))) (lnw w a).toNat (fun j => tv (aT (kdw w a)) (rdw w a j))) := by
  have ha : ((a.toNat : Nat) : Int) = a := Int.toNat_of_nonneg h0
  have h1 := h.2 a.toNat (by rw [ha]; omega)
  rw [ha] at h1
  unfold wAt at h1
  rw [if_neg (by omega)] at h1
  exact h1
theorem wRep_size {E : Ev} {w : Wd} {H : Heap} (h : wRep E w H) : H.size = (szw w).toNat ∧ 0 ≤ szw w := by
  have := h.1
  omega
/-- one place of one cell is written -/
theorem wRep_up {E : Ev} {w : Wd} {H H1 : Heap} (h : wRep E w H) {a i v : Int} (h0 : 0 ≤ a) (hz : H1.size = H.size) (ho : ∀ q : Nat, q ≠ a.toNat → H1[q]? = H[q]?)
    (hc : wAt E (kdw w a) (lnw w a) (fun j => if j = i then v else rdw w a j) a.toNat H1) : wRep E (upw w a i v) H1 := by
  refine ⟨by rw [hz]; exact h.1, fun q hq => ?_⟩
  have ha : ((a.toNat : Nat) : Int) = a := Int.toNat_of_nonneg h0
  by_cases e : (q : Int) = a
  · have e2 : q = a.toNat := by omega
    subst e2
    rw [ha]
    have : rdw (upw w a i v) a = fun j => if j = i then v else rdw w a j := by
      funext j
      rw [rd_up]
      by_cases hj : j = i <;> simp [hj]
    rw [kd_up, ln_up, this]
    exact hc
  · have e2 : q ≠ a.toNat := by omega
    have : rdw (upw w a i v) q = rdw w q := by
      funext j
      rw [rd_up, if_neg (fun z => e z.1)]
    rw [kd_up, ln_up, this]
    exact wAt_kept (h.2 q hq) (ho q e2)
/-- a new cell -/
theorem wRep_al {E : Ev} {w : Wd} {H H1 : Heap} (h : wRep E w H) {k : Nat} {n : Int} {f : Int → Int} (hz : H1.size = H.size + 1) (ho : ∀ q : Nat, q < H.size → H1[q]? = H[q]?)
    (hc : k ≠ 0 → wAt E k n f H.size H1) : wRep E (alw w k n f) H1 := by
  have hs := h.1
  refine ⟨by rw [hz, sz_al, ← hs]; omega, fun q hq => ?_⟩
  by_cases e : (q : Int) = szw w
  · have e2 : q = H.size := by omega
    subst e2
    have : rdw (alw w k n f) (H.size : Int) = f := by
      funext j
      rw [rd_al, if_pos e]
    rw [kd_al, if_pos e] at hq
    rw [kd_al, ln_al, if_pos e, if_pos e, this]
    exact hc hq
  · have : rdw (alw w k n f) q = rdw w q := by
      funext j
      rw [rd_al, if_neg e]
    rw [kd_al, if_neg e] at hq
    rw [kd_al, ln_al, if_neg e, if_neg e, this]
    have h1 := h.2 q hq
    exact wAt_kept h1 (ho q (wAt_lt h1))
theorem wRep_szU {E : Ev} {w : Wd} {H H1 : Heap} (h : wRep E w H) (ho : ∀ q : Nat, q < H.size → H1[q]? = H[q]?) : wRep E (szU w H1.size) H1 := by
  refine ⟨rfl, fun q hq => ?_⟩
  have h1 := h.2 q hq
  exact wAt_kept h1 (ho q (wAt_lt h1))
/-! the tables' facts that hold all through a run -/
def nwF : List (String × Nat × String × String × String × String) := [
  ("java/util/ArrayList$Itr", 28, "java/util/ArrayList", "size", "I", "java/util/ArrayList"),
  ("ChoreAssignment", 259, "ChoreAssignment$Way", "end", "I", "ChoreAssignment"),
  ("ChoreAssignment", 327, "ChoreAssignment$Part", "bound", "I", "ChoreAssignment"),
  ("ChoreAssignment", 330, "ChoreAssignment$Part", "rows", "I", "ChoreAssignment"),
  ("ChoreAssignment", 333, "ChoreAssignment$Part", "code", "I", "ChoreAssignment"),
  ("ChoreAssignment", 324, "ChoreAssignment$Part", "used", "I", "ChoreAssignment"),
  ("ChoreAssignment$ByCost", 7, "ChoreAssignment$Way", "cost", "I", "ChoreAssignment"),
  ("ChoreAssignment$ByCost", 19, "ChoreAssignment$Way", "order", "I", "ChoreAssignment"),
  ("ChoreAssignment$ByBound", 7, "ChoreAssignment$Part", "bound", "I", "ChoreAssignment"),
  ("ChoreAssignment$ByBound", 19, "ChoreAssignment$Part", "rows", "I", "ChoreAssignment"),
  ("ChoreAssignment$ByBound", 22, "ChoreAssignment$Part", "code", "I", "ChoreAssignment")]
def yCmp : MethodName := ⟨"java/util/Comparator", "compare", "(Ljava/lang/Object;Ljava/lang/Object;)I"⟩
def yHas : MethodName := ⟨"java/util/Iterator", "hasNext", "()Z"⟩
def yNext : MethodName := ⟨"java/util/Iterator", "next", "()Ljava/lang/Object;"⟩
def nwI : List (String × MethodName × MethodName) := [(RX2, yCmp, yX2_compare), (RX3, yCmp, yX3_compare), (RJ19, yHas, yJ19_hasNext), (RJ19, yNext, yJ19_next)]
def nwD : List MethodName := [⟨"java/lang/RuntimeException", "<init>", "()V"⟩, ⟨"java/lang/Exception", "<init>", "()V"⟩, ⟨"java/lang/Throwable", "<init>", "()V"⟩]
/-- an array class over int arrays, as the tables have it -/
def wAO (U : State) : Prop := (Cond.arrayOver (.array .int)).before #[] U = true
theorem wAO.use {A : Array Value} {U : State} (h : wAO U) : (Cond.arrayOver (.array .int)).before A U = true := h
theorem wAO_spec {args : Array Value} {first s : State} {o : Option Outcome} {idx : List Nat} {t : FieldType} (h : (Cond.arrayOver (.array t)).holds args first o s idx = true) :
    ∃ comp c k, s.vm.findClass (FieldType.array t).toString = some comp ∧ (s.vm.classes.findIdx? fun x => match x.kind with | .array component _ => component == comp | _ => false) = some c ∧ s.vm.classes[c]? = some k ∧ k.kind = .array comp (.array t) ∧ s.vm.findClass ("[" ++ (FieldType.array t).toString) = some c := by
  simp only [Cond.holds, Cond.value, beq_iff_eq] at h
  cases hc : s.vm.findClass (FieldType.array t).toString with
  | none => simp [hc] at h
  | some comp =>
    simp only [hc, Option.bind_some, Option.bind_eq_some_iff, Option.map_eq_some_iff] at h
    obtain ⟨c, hi, k, hk, hb⟩ := h
    obtain ⟨hlt, hp, -⟩ := Array.findIdx?_eq_some_iff_getElem.mp hi
    have hkk : s.vm.classes[c] = k := (Array.getElem?_eq_some_iff.mp hk).2
    rw [hkk] at hp
    cases hkind : k.kind with
    | array component ty =>
      rw [hkind] at hb hp
      simp at hb hp
      exact ⟨comp, c, k, rfl, hi, hk, by rw [hkind, hp, hb.1], hb.2⟩
    | _ => rw [hkind] at hb; simp at hb
theorem wAO.moved {u U : State} (hvm : u.vm.Alike U.vm) (h : wAO u) : wAO U := by
  obtain ⟨comp, c, k, h1, h2, h3, h4, h5⟩ := wAO_spec h
  obtain ⟨k', hk', he⟩ := hvm.2.2 _ _ h3
  have hbe : U.vm.bare = u.vm.bare := by first | exact hvm.bare_eq | exact hvm.bare_eq.symm
  have hi : (U.vm.classes.findIdx? fun (x : Class) => match x.kind with | .array component _ => component == comp | _ => false) = some c := by
    refine (va_idx_bare U.vm comp).symm.trans ?_
    rw [hbe]
    exact (va_idx_bare u.vm comp).trans h2
  have hkind : k'.kind = .array comp (.array .int) := by rw [he]; exact h4
  have f1 : U.vm.findClass (FieldType.array .int).toString = some comp := by rw [hvm.findClass]; exact h1
  have f2 : U.vm.findClass ("[" ++ (FieldType.array .int).toString) = some c := by rw [hvm.findClass]; exact h5
  unfold wAO Cond.before Cond.holds
  simp only [Cond.value]
  rw [f1, Option.bind_some]
  refine (congrArg (fun o : Option Nat => (o.bind (fun c => (U.vm.classes[c]?).map fun (k : Class) => match k.kind with | .array _ ty => decide (ty = FieldType.array .int) && decide (U.vm.findClass ("[" ++ (FieldType.array .int).toString) = some c) | _ => false) == some true)) hi).trans ?_
  simp [hk', hkind, f2]
/-- the exceptions by number; 0 is a return -/
def xn : Nat → String
  | 1 => "java/lang/IndexOutOfBoundsException"
  | 2 => "java/lang/IllegalArgumentException"
  | 3 => "java/lang/IllegalStateException"
  | _ => "java/util/NoSuchElementException"
def Kn (E : Ev) (U : State) : Prop :=
  va_K (eD E) GC [] U ∧ (∀ t : Nat, t < 6 → ArrOfT U (eA E t) (aF t) ∧ va_RA U (eA E t) (aF t)) ∧ ((va_Dc U ∧ ArrOfT U (eA E 6) (.object "java/lang/Integer")) ∧ va_Mi "[Ljava/lang/Object;" (eM E) U) ∧
  (∀ q ∈ nwF, va_Nw (.fieldLinkNest q.1 q.2.1 q.2.2.1 q.2.2.2.1 q.2.2.2.2.1 q.2.2.2.2.2) U) ∧
  (va_Nw (.methodLinkNest "ChoreAssignment" 65 yX2_init "ChoreAssignment") U ∧ va_Nw (.methodLinkNest "ChoreAssignment" 84 yX3_init "ChoreAssignment") U) ∧
  (∀ q ∈ GC, va_Nw (.castable q.1 "java/lang/Object") U) ∧ va_AO "java/lang/Object" U ∧
  (∀ q ∈ nwI, va_Fw q.1 q.2.1 q.2.2 U) ∧
  ((∀ y ∈ nwD, va_Nw (.declares y) U) ∧ (∀ k : Nat, va_Nw (.castable (xn k) (xn k)) U) ∧ (va_Nc (xn 2) (xn 1) U ∧ va_Nc (xn 3) (xn 1) U ∧ va_Nc (xn 3) (xn 2) U ∧ va_Nc (xn 4) (xn 3) U ∧ wAO U))
theorem nwI_ok : ∀ q ∈ nwI, q.2.1.cls ≠ "java/lang/invoke/MethodHandle" ∧ q.2.1.cls ≠ "java/lang/invoke/VarHandle" := by decide +kernel
theorem Kn_moved {E : Ev} {u U : State} (hW : u.WarmedH U.vm) (h : Kn E u) : Kn E U := by
  obtain ⟨h1, h2, ⟨hd, hm⟩, h3, ⟨h4, h5⟩, h6, h7, h8, h9, h10, h11, h12, h13, h14, h15⟩ := h
  have hvm : u.vm.Alike U.vm := hW.alike
  exact ⟨va_K.moved hvm h1, fun t ht => ⟨arrOfT_moved hvm (h2 t ht).1, (h2 t ht).2.moved hvm⟩, ⟨⟨hd.1.moved hvm, arrOfT_moved hvm hd.2⟩, hm.moved hvm⟩, fun q hq => va_Nw.warmF hW (h3 q hq), ⟨va_Nw.warmM hW h4, va_Nw.warmM hW h5⟩,
    fun q hq => va_Nw.warmC hW (h6 q hq), va_AO.moved hvm h7, fun q hq => va_Fw.moved (nwI_ok q hq) hvm (h8 q hq), fun y hy => va_Nw.warmD hW (h9 y hy), fun k => va_Nw.warmC hW (h10 k), h11.moved hvm, h12.moved hvm, h13.moved hvm, h14.moved hvm, h15.moved hvm⟩
theorem Kn_same {E : Ev} {u U : State} (e : u.vm = U.vm) (h : Kn E u) : Kn E U := by
  obtain ⟨h1, h2, ⟨hd, hm⟩, h3, ⟨h4, h5⟩, h6, h7, h8, h9, h10, h11, h12, h13, h14, h15⟩ := h
  have hvm : u.vm.Alike U.vm := by rw [e]; exact Vm.Alike.refl U.vm
  exact ⟨va_K.moved hvm h1, fun t ht => ⟨arrOfT_moved hvm (h2 t ht).1, (h2 t ht).2.moved hvm⟩, ⟨⟨hd.1.moved hvm, arrOfT_moved hvm hd.2⟩, hm.moved hvm⟩, fun q hq => va_Nw.same rfl e (h3 q hq), ⟨va_Nw.same rfl e h4, va_Nw.same rfl e h5⟩,
    fun q hq => va_Nw.same rfl e (h6 q hq), va_AO.moved hvm h7, fun q hq => va_Fw.moved (nwI_ok q hq) hvm (h8 q hq), fun y hy => va_Nw.same rfl e (h9 y hy), fun k => va_Nw.same rfl e (h10 k), h11.moved hvm, h12.moved hvm, h13.moved hvm, h14.moved hvm, h15.moved hvm⟩
/-- the statics that reached code reads -/
def wSta (E : Ev) (U : State) (H : Heap) : Prop :=
  va_Z "java/util/ArrayList" "DEFAULTCAPACITY_EMPTY_ELEMENTDATA" "[Ljava/lang/Object;" (.ref (eC E)) (bA E) U H ∧
  va_Z "java/lang/Integer$IntegerCache" "cache" "[Ljava/lang/Integer;" (.ref (eI E)) (bA E) U H ∧
  va_Z "java/lang/Integer$IntegerCache" "high" "I" (.int 127) (bA E) U H ∧
  vx_Zq Bundle.tN "UNASSIGNED_STACK" Bundle.steD (bA E) U H ∧ vx_Zq Bundle.tN "SUPPRESSED_SENTINEL" Bundle.listD (bA E) U H
theorem wSta_moved {E : Ev} {u U : State} {H : Heap} (hvm : u.vm.Alike U.vm) (h : wSta E u H) : wSta E U H :=
  ⟨h.1.moved hvm, h.2.1.moved hvm, h.2.2.1.moved hvm, vx_Zq.moved hvm h.2.2.2.1, vx_Zq.moved hvm h.2.2.2.2⟩
theorem wSta_kept {E : Ev} {U : State} {H H1 : Heap} (h : wSta E U H) (hq : ∀ a : Nat, a < H.size → ¬ bA E a → H1[a]? = H[a]?) : wSta E U H1 :=
  ⟨h.1.kept hq, h.2.1.kept hq, h.2.2.1.kept hq, h.2.2.2.1.kept hq, h.2.2.2.2.kept hq⟩
/-! where a method is walked -/
abbrev Cx : Type := Program × Launch × Env × Room × State × MethodId × Array Value × List Frame × Method × Code × (State → Prop) × Ev
abbrev cP (X : Cx) : Program := X.1
abbrev cL (X : Cx) : Launch := X.2.1
abbrev cE (X : Cx) : Env := X.2.2.1
abbrev cR (X : Cx) : Room := X.2.2.2.1
abbrev cS (X : Cx) : State := X.2.2.2.2.1
abbrev cM (X : Cx) : MethodId := X.2.2.2.2.2.1
abbrev cA (X : Cx) : Array Value := X.2.2.2.2.2.2.1
abbrev cB (X : Cx) : List Frame := X.2.2.2.2.2.2.2.1
abbrev cH (X : Cx) : Method := X.2.2.2.2.2.2.2.2.1
abbrev cC (X : Cx) : Code := X.2.2.2.2.2.2.2.2.2.1
abbrev cZ (X : Cx) : State → Prop := X.2.2.2.2.2.2.2.2.2.2.1
abbrev cV (X : Cx) : Ev := X.2.2.2.2.2.2.2.2.2.2.2
/-- what holds at a method's entry: own class, code, places for locals, depth left -/
def Ok (X : Cx) (E : Ev) (own : String) (cc : ByteArray) (nL d : Nat) : Prop :=
  (cP X).tables.exec = Jvm.exec ∧ (cC X).code = cc ∧ (cC X).maxLocals = nL ∧ (cS X).vm.findClass own = some (cM X).cls ∧ (∀ w ∈ lw_all, w.before (cA X) (cS X) = true) ∧
  Kn (cV X) (cS X) ∧ wSta (cV X) (cS X) (cS X).heap ∧ (d ≤ (cR X).frames ∧ 64 * d ≤ (cR X).locals) ∧ (cL X).stackTraces = false ∧ cL X = eL (cV X) ∧ eB (cV X) ≤ (cS X).heap.size ∧ (cH X).locks = false ∧ cV X = E
/-! locals: a place each, a tag (0 int, 1 reference, 2 long, 3 float, 4 double, 9 not known) and a number -/
def tvv : Nat → Int → Value
  | 0, x => vI x
  | 1, x => vR x
  | 2, x => vL x
  | 3, x => vF x
  | _, x => vD x
theorem tvv_cat1 {t : Nat} {x : Int} (h : t = 0 ∨ t = 1 ∨ t = 3) : (tvv t x).category = 1 := by
  rcases h with rfl | rfl | rfl
  · rfl
  · exact vR_cat x
  · rfl
def lvCi : Nat → List (Nat × Int) → List (Nat × Value)
  | _, [] => []
  | i, q :: l => if q.1 = 9 then lvCi (i + 1) l else (i, tvv q.1 q.2) :: lvCi (i + 1) l
def lvC (lv : List (Nat × Int)) : List (Nat × Value) := lvCi 0 lv
theorem lvCi_mem : ∀ {lv : List (Nat × Int)} {i j t : Nat} {x : Int}, lv[j]? = some (t, x) → t ≠ 9 → (i + j, tvv t x) ∈ lvCi i lv := by
  intro lv
  induction lv with
  | nil => intro i j t x h; simp at h
  | cons q l ih =>
    intro i j t x h ht
    cases j with
    | zero =>
      simp at h
      subst h
      simp [lvCi, ht]
    | succ j =>
      have h1 := ih (i := i + 1) (by simpa using h) ht
      rw [show i + 1 + j = i + (j + 1) by omega] at h1
      unfold lvCi
      split
      · exact h1
      · exact List.mem_cons_of_mem _ h1
theorem lvC_mem {lv : List (Nat × Int)} {j t : Nat} {x : Int} (h : lv[j]? = some (t, x)) (ht : t ≠ 9) : (j, tvv t x) ∈ lvC lv := by
  have h1 := lvCi_mem (i := 0) h ht
  rwa [Nat.zero_add] at h1
theorem lvCi_of : ∀ {lv : List (Nat × Int)} {i : Nat} {q : Nat × Value}, q ∈ lvCi i lv → ∃ (j t : Nat) (x : Int), q = (i + j, tvv t x) ∧ lv[j]? = some (t, x) ∧ t ≠ 9 := by
  intro lv
  induction lv with
  | nil => intro i q h; simp [lvCi] at h
  | cons r l ih =>
    intro i q h
    unfold lvCi at h
    split at h
    · obtain ⟨j, t, x, e1, e2, e3⟩ := ih h
      exact ⟨j + 1, t, x, by rw [e1]; congr 1; omega, by simpa using e2, e3⟩
    · rename_i h9
      rcases List.mem_cons.mp h with e | h
      · exact ⟨0, r.1, r.2, e, rfl, h9⟩
      · obtain ⟨j, t, x, e1, e2, e3⟩ := ih h
        exact ⟨j + 1, t, x, by rw [e1]; congr 1; omega, by simpa using e2, e3⟩
def lvH (ls : Array Slot) (n : Nat) (lv : List (Nat × Int)) : Prop := ls.size = n ∧ lv_wf ls ∧ ∀ (j t : Nat) (x : Int), lv[j]? = some (t, x) → t ≠ 9 → ls[j]? = some (.val (tvv t x))
theorem lvH_has {ls : Array Slot} {n : Nat} {lv : List (Nat × Int)} (h : lvH ls n lv) : lv_has ls n (lvC lv) := by
  refine ⟨h.1, h.2.1, fun q hq => ?_⟩
  obtain ⟨j, t, x, e1, e2, e3⟩ := lvCi_of hq
  subst e1
  rw [Nat.zero_add]
  exact h.2.2 j t x e2 e3
/-! numbers -/
theorem i32_toInt {x : Int} (h : -2147483648 ≤ x ∧ x ≤ 2147483647) : (Int32.ofInt x).toInt = x := Int32.toInt_ofInt_of_le h.1 (by have := h.2; omega)
theorem i64_toInt {x : Int} (h : -9223372036854775808 ≤ x ∧ x ≤ 9223372036854775807) : (Int64.ofInt x).toInt = x := Int64.toInt_ofInt_of_le h.1 (by have := h.2; omega)
theorem i2l_of {x : Int} (h : -2147483648 ≤ x ∧ x ≤ 2147483647) : (Int32.ofInt x).toInt64 = Int64.ofInt x := by
  rw [← Int64.toInt_inj, Int32.toInt_toInt64, i32_toInt h, i64_toInt (by omega)]
theorem l2i_of (x : Int) : (Int64.ofInt x).toInt32 = Int32.ofInt x := Int64.toInt32_ofInt
theorem cmp_eq {x y : Int} (hx : -2147483648 ≤ x ∧ x ≤ 2147483647) (hy : -2147483648 ≤ y ∧ y ≤ 2147483647) : Int32.ofInt x = Int32.ofInt y ↔ x = y := by
  rw [← Int32.toInt_inj, i32_toInt hx, i32_toInt hy]
theorem cmp_ne {x y : Int} (hx : -2147483648 ≤ x ∧ x ≤ 2147483647) (hy : -2147483648 ≤ y ∧ y ≤ 2147483647) : ¬ Int32.ofInt x = Int32.ofInt y ↔ ¬ x = y := not_congr (cmp_eq hx hy)
theorem cmp_lt {x y : Int} (hx : -2147483648 ≤ x ∧ x ≤ 2147483647) (hy : -2147483648 ≤ y ∧ y ≤ 2147483647) : Int32.ofInt x < Int32.ofInt y ↔ x < y := by
  rw [Int32.lt_iff_toInt_lt, i32_toInt hx, i32_toInt hy]
theorem cmp_le {x y : Int} (hx : -2147483648 ≤ x ∧ x ≤ 2147483647) (hy : -2147483648 ≤ y ∧ y ≤ 2147483647) : Int32.ofInt x ≤ Int32.ofInt y ↔ x ≤ y := by
  rw [Int32.le_iff_toInt_le, i32_toInt hx, i32_toInt hy]
theorem cmp_gt {x y : Int} (hx : -2147483648 ≤ x ∧ x ≤ 2147483647) (hy : -2147483648 ≤ y ∧ y ≤ 2147483647) : Int32.ofInt y < Int32.ofInt x ↔ y < x := cmp_lt hy hx
theorem cmp_ge {x y : Int} (hx : -2147483648 ≤ x ∧ x ≤ 2147483647) (hy : -2147483648 ≤ y ∧ y ≤ 2147483647) : Int32.ofInt y ≤ Int32.ofInt x ↔ y ≤ x := cmp_le hy hx
theorem lcmp_of {x y : Int} (hx : -9223372036854775808 ≤ x ∧ x ≤ 9223372036854775807) (hy : -9223372036854775808 ≤ y ∧ y ≤ 9223372036854775807) : Value.int (lg_cmp (Int64.ofInt x) (Int64.ofInt y)) = vI (if y < x then 1 else if x < y then -1 else 0) := by
  have h1 : Int64.ofInt y < Int64.ofInt x ↔ y < x := by rw [Int64.lt_iff_toInt_lt, i64_toInt hx, i64_toInt hy]
  have h2 : Int64.ofInt x < Int64.ofInt y ↔ x < y := by rw [Int64.lt_iff_toInt_lt, i64_toInt hx, i64_toInt hy]
  have h3 : Int64.ofInt x = Int64.ofInt y ↔ x = y := by rw [← Int64.toInt_inj, i64_toInt hx, i64_toInt hy]
  by_cases e1 : y < x
  · simp [lg_cmp, h1, e1, vI]
  · by_cases e2 : x < y
    · have : ¬ x = y := by omega
      simp [lg_cmp, h1, h2, h3, e1, e2, this, vI]
    · have : x = y := by omega
      subst this
      simp [lg_cmp, vI]
theorem lcmp_eq (x y : Int64) : ∃ z : Int, (-1 ≤ z ∧ z ≤ 1) ∧ (z = 0 ↔ x = y) ∧ lg_cmp x y = Int32.ofInt z := by
  by_cases e1 : y < x
  · refine ⟨1, by decide, ⟨fun h => by omega, fun h => ?_⟩, by simp [lg_cmp, e1]⟩
    subst h
    exact absurd e1 (Int64.lt_irrefl)
  · by_cases e3 : x = y
    · subst e3
      exact ⟨0, by decide, by simp, by simp [lg_cmp]⟩
    · exact ⟨-1, by decide, ⟨fun h => by omega, fun h => absurd h e3⟩, by simp [lg_cmp, e1, e3]⟩
theorem ro_inj {x y : Int} (hx : 0 ≤ x) (hy : 0 ≤ y) : ro x = ro y ↔ x = y := by
  have h1 : ¬ x < 0 := by omega
  have h2 : ¬ y < 0 := by omega
  simp only [ro, h1, h2, if_false, Option.some.injEq]
  omega
/-- from the instruction pc, with these locals and this stack, over this world, with bc cells of bs slots left: the method comes to its end as it should -/
def GG (X : Cx) (bc bs : Nat) (w : Wd) (pc : Nat) (lv : List (Nat × Int)) (st : List Value) : Prop :=
  ∀ (H : Heap) (locs : List Loc) (ls : Array Slot) (cells slots : Nat), wRep (cV X) w H → va_S (bA (cV X)) (cS X).heap H locs → lvH ls (cC X).maxLocals lv → cells + bc ≤ (cR X).cells → slots + bs ≤ (cR X).slots →
    W (cP X) (cL X) (cE X) (cR X) (cS X) (cM X) (cA X) (cB X) (cH X) (cC X) H locs cells slots (cZ X) (F0 (cM X) pc ls st)
/-- the same with an exception of the class N thrown -/
def GX (X : Cx) (bc bs : Nat) (w : Wd) (pc : Nat) (lv : List (Nat × Int)) (N : String) : Prop :=
  ∀ (H : Heap) (locs : List Loc) (ls : Array Slot) (cells slots : Nat) (rest : List Value) (q : Addr) (ce : Cell), wRep (cV X) w H → va_S (bA (cV X)) (cS X).heap H locs → lvH ls (cC X).maxLocals lv → cells + bc ≤ (cR X).cells → slots + bs ≤ (cR X).slots →
    H[q]? = some ce → ce.vm = .none → (cS X).vm.findClass N = some ce.cls →
    vx_W (cP X) (cL X) (cE X) (cR X) (cS X) (cM X) (cA X) (cB X) (cH X) (cC X) H locs cells slots (cZ X) (F0 (cM X) pc ls rest) q
def wIn (E : Ev) (w : Wd) (U : State) : Prop := Kn E U ∧ wRep E w U.heap ∧ wSta E U U.heap ∧ eB E ≤ U.heap.size ∧ (eL E).stackTraces = false
def QcOf (E : Ev) (Q : Nat → Option Value → Wd → Prop) : Array Value → State → Outcome → State → Prop := fun _ st o t => (∃ v w', Q 0 v w' ∧ o = .returned v ∧ wRep E w' t.heap) ∧ va_F (bA E) st t
def XCOf (E : Ev) (Q : Nat → Option Value → Wd → Prop) : String → State → State → Prop := fun N st t => (∃ k w', k ≠ 0 ∧ Q k none w' ∧ N = xn k ∧ wRep E w' t.heap) ∧ va_F (bA E) st t
abbrev Mth : Type := MethodName × ByteArray × Nat × Option FieldType
/-- A CONTRACT: the method, from this world with these arguments, within d frames, mc cells of ms slots, comes to an end that Q holds of: (0, answer, world) or (number of an exception, none, world) -/
def Call (E : Ev) (M : Mth) (d mc ms : Nat) (av : List Value) (w : Wd) (Q : Nat → Option Value → Wd → Prop) : Prop :=
  vx_Met (eL E) M.1 (ws_ M.1 M.2.1 M.2.2.1 M.2.2.2) { frames := d, cells := mc, slots := ms, locals := 64 * d } (fun a U => a = av.toArray ∧ wIn E w U) (QcOf E Q) (XCOf E Q) mc ms (bA E)
/-- where a body may end -/
def Fz (X : Cx) (Q : Nat → Option Value → Wd → Prop) (rt : Option FieldType) : Prop :=
  cZ X = vx_MQ (cB X) (QcOf (cV X) Q) (XCOf (cV X) Q) (cA X) (cS X) (cR X).cells (cR X).slots (bA (cV X)) ∧ (cH X).sig.returnType = rt ∧ (∀ x ∈ (cC X).exceptionTable.toList, False)
theorem wIn_blind {E : Ev} {w : Wd} {av : List Value} : FrameBlind (fun a U => a = av.toArray ∧ wIn E w U) := by
  intro a U g mk h
  obtain ⟨h0, h1, h2, h3, h4, h5⟩ := h
  exact ⟨h0, Kn_same (u := U) rfl h1, h2, wSta_moved (u := U) (Vm.Alike.refl U.vm) h3, h4, h5⟩
