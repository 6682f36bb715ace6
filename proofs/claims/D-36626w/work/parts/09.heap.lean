/-! THE ROWS THAT TOUCH THE HEAP -/
set_option maxRecDepth 100000
section RW1
variable {X : Cx} {E : Ev} {own : String} {cc : ByteArray} {nL d bc bs : Nat} {w : Wd} {pc pc' : Nat} {lv : List (Nat × Int)} {st : List Value}
theorem idx_of {i : Int} (h : 0 ≤ i ∧ i ≤ 2147483647) : (Int32.ofInt i).toNatClampNeg = i.toNat ∧ ¬ Int32.ofInt i < 0 := by
  have h1 := i32_toInt (x := i) (by omega)
  refine ⟨by show (Int32.ofInt i).toInt.toNat = _; rw [h1], fun q => ?_⟩
  rw [Int32.lt_iff_toInt_lt, h1] at q
  simp at q
  omega
/-- the cell of an object -/
theorem ob_at {s : State} {H : Heap} {a : Int} {ci : Nat} {C : String} {T : u_T} {N : Nat} (hK : Kn E s) (hR : wRep E w H) (h0 : 0 ≤ a) (hk : kdw w a = ci + 1) (hc : GC[ci]? = some (C, T, N)) :
    ∃ cell : Cell, H[a.toNat]? = some cell ∧ cell.vm.isStatics = false ∧ s.vm.findClass C = some cell.cls := by
  have h50 : ci + 1 < 49 := by
    have := (List.getElem?_eq_some_iff.mp hc).1
    have e : GC.length = 10 := rfl
    omega
  obtain ⟨cell, q1, q2, q3, -⟩ := wRep_obj hR h0 hk h50 hc
  exact ⟨cell, q1, by rw [q3]; rfl, by rw [q2]; exact (hK.1.1 ci _ hc).2.1⟩
theorem sm_of {s : State} {args : Array Value} {ref n t ds : String} {x : ClassId × Class × Nat × Field} (hts : ∀ w ∈ lw_all, w.before args s = true) (h : ref = t ∨ Jvm.Cond.sameField ref t n ds ∈ lw_all) (hi : s.fieldFound? t n ds = some x) : s.fieldFound? ref n ds = some x := by
  rcases h with h | h
  · rw [h]; exact hi
  · exact u_same (hts _ h) x hi
theorem g_get {idx ci : Nat} {C ref : String} {T : u_T} {N : Nat} {a : Int} (k : Nat) (h : Ok X E own cc nL d) (dg : decode cc pc = .ok (.getfield idx, 3)) (hc : GC[ci]? = some (C, T, N)) (hk : k < N) (hq : Jvm.Cond.fieldLink own idx ref (T k).2.1 (T k).2.2.1 ∈ lw_all)
    (hsame : ref = (T k).1 ∨ Jvm.Cond.sameField ref (T k).1 (T k).2.1 (T k).2.2.1 ∈ lw_all) (ha : 0 ≤ a) (hkd : kdw w a = ci + 1) (hp : pc + 3 = pc') (K : GG X bc bs w pc' lv (tv (ft (ci + 1) k) (rdw w a k) :: st)) : GG X bc bs w pc lv (vR a :: st) := by
  subst hp
  intro H locs ls cells slots hR b c e f
  obtain ⟨hx, hb, hml, hown, hts, hKn, -, -, -, -, -, -, hE⟩ := h
  subst hE
  have h50 : ci + 1 < 49 := by
    have := (List.getElem?_eq_some_iff.mp hc).1
    have e : GC.length = 10 := rfl
    omega
  obtain ⟨cell, q1, q2, q3, q4⟩ := wRep_obj hR ha hkd h50 hc
  obtain ⟨hS, hfc, kC, hkC, hkind⟩ := hKn.1.1 ci _ hc
  obtain ⟨cf, kf, fi, fd, hi, hsl⟩ := hS k hk
  rw [vR_pos ha]
  refine W.getf hx hb hown (hts _ hq) (sm_of hts hsame hi) (u_facts hfc hkC (u_lays hts (GC_ok hc).1 hk) hi).1 q1 (by rw [q3]; exact fun h => by cases h) (v := tv (ft (ci + 1) k) (rdw w a k)) ?_ rfl rfl dg (K H locs ls cells slots hR b c e f)
  rw [hsl, q4 k hk]
theorem g_getN {idx ci : Nat} {C ref host nm ds : String} {T : u_T} {N : Nat} {a : Int} (k : Nat) (h : Ok X E own cc nL d) (dg : decode cc pc = .ok (.getfield idx, 3)) (hc : GC[ci]? = some (C, T, N)) (hk : k < N) (hq : (own, idx, ref, nm, ds, host) ∈ nwF) (hnm : (T k).2.1 = nm ∧ (T k).2.2.1 = ds)
    (hsame : ref = (T k).1 ∨ Jvm.Cond.sameField ref (T k).1 (T k).2.1 (T k).2.2.1 ∈ lw_all) (ha : 0 ≤ a) (hkd : kdw w a = ci + 1) (hp : pc + 3 = pc') (K : GG X bc bs w pc' lv (tv (ft (ci + 1) k) (rdw w a k) :: st)) : GG X bc bs w pc lv (vR a :: st) := by
  subst hp
  intro H locs ls cells slots hR b c e f
  obtain ⟨hx, hb, hml, hown, hts, hKn, -, -, -, -, -, -, hE⟩ := h
  subst hE
  have h50 : ci + 1 < 49 := by
    have := (List.getElem?_eq_some_iff.mp hc).1
    have e : GC.length = 10 := rfl
    omega
  obtain ⟨cell, q1, q2, q3, q4⟩ := wRep_obj hR ha hkd h50 hc
  obtain ⟨hS, hfc, kC, hkC, hkind⟩ := hKn.1.1 ci _ hc
  obtain ⟨cf, kf, fi, fd, hi, hsl⟩ := hS k hk
  rw [vR_pos ha]
  have hl := va_Nw.use (A := cA X) rfl (hKn.2.2.2.1 _ hq)
  obtain ⟨e1, e2⟩ := hnm
  subst e1; subst e2
  refine va_Wgetf hx hb hown hl (sm_of hts hsame hi) (u_facts hfc hkC (u_lays hts (GC_ok hc).1 hk) hi).1 q1 (by rw [q3]; exact fun h => by cases h) (v := tv (ft (ci + 1) k) (rdw w a k)) ?_ rfl rfl dg (K H locs ls cells slots hR b c e f)
  rw [hsl, q4 k hk]
/-- what a field or an array of the type may be given -/
def okv : FieldType → Int → Prop
  | .boolean, x => x = 0 ∨ x = 1
  | .byte, _ => False
  | .char, _ => False
  | .short, _ => False
  | _, _ => True
theorem okv_n {t : FieldType} {x : Int} (h : okv t x) : narrow t (tv t x) = tv t x ∧ fits t (tv t x) = true := by
  cases t with
  | boolean => rcases h with rfl | rfl <;> exact ⟨by decide, by decide⟩
  | byte => exact absurd h id
  | char => exact absurd h id
  | short => exact absurd h id
  | object C => refine ⟨rfl, ?_⟩; show fits _ (vR x) = true; unfold vR; cases ro x <;> rfl
  | array C => refine ⟨rfl, ?_⟩; show fits _ (vR x) = true; unfold vR; cases ro x <;> rfl
  | _ => exact ⟨rfl, rfl⟩
theorem at_put {ci : Nat} {C : String} {T : u_T} {N : Nat} {a v : Int} {k : Nat} {H1 : Heap} {cell : Cell} {n : Int} (hc : GC[ci]? = some (C, T, N)) (hk : k < N) (h50 : ci + 1 < 49) (hap : ∀ x y, x < N → y < N → x ≠ y → ((eD E).2 ci) x ≠ ((eD E).2 ci) y)
    (q2 : cell.cls = (eD E).1 ci) (q3 : cell.vm = .none) (q4 : ∀ j, j < N → cell.slots[(eD E).2 ci j]? = some (tv (ft (ci + 1) j) (rdw w a j))) (e1 : H1[a.toNat]? = some (cell.setSlot ((eD E).2 ci k) (tv (ft (ci + 1) k) v))) :
    wAt E (ci + 1) n (fun j => if j = (k : Int) then v else rdw w a j) a.toNat H1 := by
  unfold wAt
  rw [if_pos h50]
  refine ⟨(C, T, N), hc, t_OB.to (V := updV (fun j => tv (ft (ci + 1) j) (rdw w a j)) k (tv (ft (ci + 1) k) v)) ⟨_, e1, q2, q3, t_set q4 hap hk _⟩ (fun j _ => ?_)⟩
  unfold updV
  by_cases hj : j = k
  · subst hj; simp
  · have : ¬ (j : Int) = k := by omega
    simp [hj, this]
theorem g_put {idx ci : Nat} {C ref : String} {T : u_T} {N : Nat} {a x : Int} (k : Nat) (h : Ok X E own cc nL d) (dg : decode cc pc = .ok (.putfield idx, 3)) (hc : GC[ci]? = some (C, T, N)) (hk : k < N) (hq : Jvm.Cond.fieldLink own idx ref (T k).2.1 (T k).2.2.1 ∈ lw_all)
    (hsame : ref = (T k).1 ∨ Jvm.Cond.sameField ref (T k).1 (T k).2.1 (T k).2.2.1 ∈ lw_all) (hfin : (T k).2.2.2 = false) (hv : okv (ft (ci + 1) k) x) (ha : (eB E : Int) ≤ a) (hkd : kdw w a = ci + 1) (hp : pc + 3 = pc') (K : GG X bc bs (upw w a k x) pc' lv st) : GG X bc bs w pc lv (tv (ft (ci + 1) k) x :: vR a :: st) := by
  subst hp
  intro H locs ls cells slots hR b c e f
  obtain ⟨hx, hb, hml, hown, hts, hKn, -, -, -, -, -, -, hE⟩ := h
  subst hE
  have h50 : ci + 1 < 49 := by
    have := (List.getElem?_eq_some_iff.mp hc).1
    have e : GC.length = 10 := rfl
    omega
  have h0 : 0 ≤ a := by omega
  obtain ⟨cell, q1, q2, q3, q4⟩ := wRep_obj hR h0 hkd h50 hc
  have hin := (GC_ok hc).1
  have hap := va_apart (own := own) hts hin (ft (ci + 1)) (GC_ok hc).2.1 (GC_ok hc).2.2 hKn.1 hc
  obtain ⟨hS, hfc, kC, hkC, hkind⟩ := hKn.1.1 ci _ hc
  obtain ⟨cf, kf, fi, fd, hi, hsl⟩ := hS k hk
  have hlay := hts _ (hin _ (u_in_lay hk))
  unfold u_lay at hlay
  rw [if_neg (by rw [hfin]; decide)] at hlay
  have hst := (u_facts hfc hkC (u_lays hts hin hk) hi).1
  have h6 := u_store hfc hkC hkind hlay hi ((GC_ok hc).2.1 k hk) (okv_n hv).1 (okv_n hv).2
  rw [vR_pos h0]
  refine W.putK hx hb (f := fd) ⟨hown, hts _ hq, ⟨_, _, _, sm_of hts hsame hi⟩, hst⟩ (by rw [q2]; exact h6) q1 q3 (by rw [hsl]; exact k2_hasslot (q4 k hk)) rfl rfl dg fun H' e1 e2 e3 => ?_
  rw [hsl] at e1 ⊢
  refine K H' _ ls cells slots (wRep_up hR h0 e2 e3 ?_) (b.put e2 e3 (show eB (cV X) ≤ a.toNat by omega)) c e f
  rw [hkd]
  exact at_put hc hk h50 hap q2 q3 q4 e1
theorem g_putF {idx ci : Nat} {C ref : String} {T : u_T} {N : Nat} {a x : Int} (k : Nat) (h : Ok X E own cc nL d) (hname : (cH X).name = "<init>") (dg : decode cc pc = .ok (.putfield idx, 3)) (hc : GC[ci]? = some (C, T, N)) (hk : k < N) (hq : Jvm.Cond.fieldLink own idx ref (T k).2.1 (T k).2.2.1 ∈ lw_all)
    (hsame : ref = (T k).1 ∨ Jvm.Cond.sameField ref (T k).1 (T k).2.1 (T k).2.2.1 ∈ lw_all) (hfin : (T k).2.2.2 = true) (hdecl : (T k).1 = own) (hv : okv (ft (ci + 1) k) x) (ha : (eB E : Int) ≤ a) (hkd : kdw w a = ci + 1) (hp : pc + 3 = pc') (K : GG X bc bs (upw w a k x) pc' lv st) : GG X bc bs w pc lv (tv (ft (ci + 1) k) x :: vR a :: st) := by
  subst hp
  intro H locs ls cells slots hR b c e f
  obtain ⟨hx, hb, hml, hown, hts, hKn, -, -, -, -, -, -, hE⟩ := h
  subst hE
  have h50 : ci + 1 < 49 := by
    have := (List.getElem?_eq_some_iff.mp hc).1
    have e : GC.length = 10 := rfl
    omega
  have h0 : 0 ≤ a := by omega
  obtain ⟨cell, q1, q2, q3, q4⟩ := wRep_obj hR h0 hkd h50 hc
  have hin := (GC_ok hc).1
  have hap := va_apart (own := own) hts hin (ft (ci + 1)) (GC_ok hc).2.1 (GC_ok hc).2.2 hKn.1 hc
  obtain ⟨hS, hfc, kC, hkC, hkind⟩ := hKn.1.1 ci _ hc
  obtain ⟨cf, kf, fi, fd, hi, hsl⟩ := hS k hk
  have hlay := hts _ (hin _ (u_in_lay hk))
  unfold u_lay at hlay
  rw [if_pos hfin] at hlay
  have hst := (u_facts hfc hkC (u_lays hts hin hk) hi).1
  have hcf : (cM X).cls = cf := by
    obtain ⟨_, _, c', _, _, _, -, -, hf', -, -, -, hown2, -⟩ := Cond.laysFinal_spec hlay
    have e1 : c' = cf := by have := hi.symm.trans hf'; simp at this; exact this.1.symm
    rw [hdecl] at hown2
    rw [← e1]; exact Option.some.inj (hown.symm.trans hown2)
  have h6 := u_fits hfc hkC hkind (Or.inr hlay) hi ((GC_ok hc).2.1 k hk) (okv_n hv).1 (okv_n hv).2
  rw [vR_pos h0]
  refine W.putFinK hx hb hown (hts _ hq) (sm_of hts hsame hi) hst hcf hname (by rw [q2]; exact h6) q1 q3 (by rw [hsl]; exact k2_hasslot (q4 k hk)) rfl rfl dg fun H' e1 e2 e3 => ?_
  rw [hsl] at e1 ⊢
  refine K H' _ ls cells slots (wRep_up hR h0 e2 e3 ?_) (b.put e2 e3 (show eB (cV X) ≤ a.toNat by omega)) c e f
  rw [hkd]
  exact at_put hc hk h50 hap q2 q3 q4 e1
/-! arrays -/
theorem arr_of {s : State} {k : Nat} (hK : Kn E s) (h : 50 ≤ k) : ak k < 6 ∧ ∀ (n : Nat) (z : Nat → Value), s.isArrayOf (arrV (eA E (ak k)) n z) (aT k) := by
  by_cases h5 : 55 ≤ k
  · have e : ak k = 5 := by unfold ak; rw [if_neg (by omega), if_pos h5]
    refine ⟨by omega, fun n z => ?_⟩
    unfold aT
    rw [e]
    exact (hK.2.1 5 (by omega)).1 n z
  · have e : ak k = k - 50 := by unfold ak; rw [if_neg (by omega), if_neg h5]
    refine ⟨by omega, fun n z => ?_⟩
    unfold aT
    exact (hK.2.1 (ak k) (by omega)).1 n z
theorem g_alen {a : Int} (h : Ok X E own cc nL d) (dg : decode cc pc = .ok (.arraylength, 1)) (ha : 0 ≤ a) (hk : 50 ≤ kdw w a) (hn : 0 ≤ lnw w a) (hp : pc + 1 = pc') (K : GG X bc bs w pc' lv (vI (lnw w a) :: st)) : GG X bc bs w pc lv (vR a :: st) := by
  subst hp
  intro H locs ls cells slots hR b c e f
  obtain ⟨hx, hb, hml, hown, hts, hKn, -, -, -, -, -, -, hE⟩ := h
  subst hE
  rw [vR_pos ha]
  refine W.alen (n := Int32.ofInt (lnw w a)) hx hb (wRep_arr hR ha (by omega)) ((arr_of hKn hk).2 _ _) ?_ rfl rfl dg (K H locs ls cells slots hR b c e f)
  rw [arrV_size]
  show Int32.ofNat (lnw w a).toNat = _
  rw [← Int32.ofInt_eq_ofNat]
  congr 1
  omega
theorem in_of {cA : ClassId} {i : Int} {n : Int} {f : Nat → Value} (h : 0 ≤ i ∧ i < n ∧ i ≤ 2147483647) : ¬ (Int32.ofInt i < 0 ∨ (arrV cA n.toNat f).slots.size ≤ (Int32.ofInt i).toNatClampNeg) ∧ (arrV cA n.toNat f).slots[(Int32.ofInt i).toNatClampNeg]? = some (f i.toNat) := by
  obtain ⟨e1, e2⟩ := idx_of (i := i) (by omega)
  refine ⟨fun q => ?_, ?_⟩
  · rcases q with q | q
    · exact e2 q
    · rw [arrV_size, e1] at q
      omega
  · rw [e1, arrV_read _ _ (by omega)]
-- ARRAYS-BEGIN
theorem g_iald {a i : Int} (h : Ok X E own cc nL d) (dg : decode cc pc = .ok (.iaload, 1)) (ha : 0 ≤ a) (hk : kdw w a = 50) (hi : 0 ≤ i ∧ i < lnw w a ∧ i ≤ 2147483647) (hp : pc + 1 = pc') (K : GG X bc bs w pc' lv (vI (rdw w a i) :: st)) : GG X bc bs w pc lv (vI i :: vR a :: st) := by
  subst hp
  intro H locs ls cells slots hR b c e f
  obtain ⟨hx, hb, hml, hown, hts, hKn, hSt, hRm, hTr, hlE, hbs, hlk, hE⟩ := h
  subst hE
  rw [vR_pos ha]
  have h1 := wRep_arr hR ha (by omega)
  rw [hk] at h1
  refine W.iald (v := vI (rdw w a i)) hx hb h1 ((arr_of hKn (k := 50) (by omega)).2 _ _) (fun q => by cases q) (in_of hi).1 ?_ rfl rfl dg (K H locs ls cells slots hR b c e f)
  rw [(in_of hi).2]
  show some (tv (aT 50) (rdw w a (i.toNat : Int))) = _
  rw [Int.toNat_of_nonneg hi.1]
  rfl
theorem g_zald {a i : Int} (h : Ok X E own cc nL d) (dg : decode cc pc = .ok (.baload, 1)) (ha : 0 ≤ a) (hk : kdw w a = 51) (hi : 0 ≤ i ∧ i < lnw w a ∧ i ≤ 2147483647) (hp : pc + 1 = pc') (K : GG X bc bs w pc' lv (vI (rdw w a i) :: st)) : GG X bc bs w pc lv (vI i :: vR a :: st) := by
  subst hp
  intro H locs ls cells slots hR b c e f
  obtain ⟨hx, hb, hml, hown, hts, hKn, hSt, hRm, hTr, hlE, hbs, hlk, hE⟩ := h
  subst hE
  rw [vR_pos ha]
  have h1 := wRep_arr hR ha (by omega)
  rw [hk] at h1
  refine W.zald (v := vI (rdw w a i)) hx hb h1 ((arr_of hKn (k := 51) (by omega)).2 _ _) (fun q => by cases q) (in_of hi).1 ?_ rfl rfl dg (K H locs ls cells slots hR b c e f)
  rw [(in_of hi).2]
  show some (tv (aT 51) (rdw w a (i.toNat : Int))) = _
  rw [Int.toNat_of_nonneg hi.1]
  rfl
theorem g_lald {a i : Int} (h : Ok X E own cc nL d) (dg : decode cc pc = .ok (.laload, 1)) (ha : 0 ≤ a) (hk : kdw w a = 52) (hi : 0 ≤ i ∧ i < lnw w a ∧ i ≤ 2147483647) (hp : pc + 1 = pc') (K : GG X bc bs w pc' lv (vL (rdw w a i) :: st)) : GG X bc bs w pc lv (vI i :: vR a :: st) := by
  subst hp
  intro H locs ls cells slots hR b c e f
  obtain ⟨hx, hb, hml, hown, hts, hKn, hSt, hRm, hTr, hlE, hbs, hlk, hE⟩ := h
  subst hE
  rw [vR_pos ha]
  have h1 := wRep_arr hR ha (by omega)
  rw [hk] at h1
  refine W.lald (v := vL (rdw w a i)) hx hb h1 ((arr_of hKn (k := 52) (by omega)).2 _ _) (fun q => by cases q) (in_of hi).1 ?_ rfl rfl dg (K H locs ls cells slots hR b c e f)
  rw [(in_of hi).2]
  show some (tv (aT 52) (rdw w a (i.toNat : Int))) = _
  rw [Int.toNat_of_nonneg hi.1]
  rfl
theorem g_dald {a i : Int} (h : Ok X E own cc nL d) (dg : decode cc pc = .ok (.daload, 1)) (ha : 0 ≤ a) (hk : kdw w a = 53) (hi : 0 ≤ i ∧ i < lnw w a ∧ i ≤ 2147483647) (hp : pc + 1 = pc') (K : GG X bc bs w pc' lv (vD (rdw w a i) :: st)) : GG X bc bs w pc lv (vI i :: vR a :: st) := by
  subst hp
  intro H locs ls cells slots hR b c e f
  obtain ⟨hx, hb, hml, hown, hts, hKn, hSt, hRm, hTr, hlE, hbs, hlk, hE⟩ := h
  subst hE
  rw [vR_pos ha]
  have h1 := wRep_arr hR ha (by omega)
  rw [hk] at h1
  refine W.dald (v := vD (rdw w a i)) hx hb h1 ((arr_of hKn (k := 53) (by omega)).2 _ _) (fun q => by cases q) (in_of hi).1 ?_ rfl rfl dg (K H locs ls cells slots hR b c e f)
  rw [(in_of hi).2]
  show some (tv (aT 53) (rdw w a (i.toNat : Int))) = _
  rw [Int.toNat_of_nonneg hi.1]
  rfl
theorem g_aald {a i : Int} (h : Ok X E own cc nL d) (dg : decode cc pc = .ok (.aaload, 1)) (ha : 0 ≤ a) (hk : 54 ≤ kdw w a) (hi : 0 ≤ i ∧ i < lnw w a ∧ i ≤ 2147483647) (hp : pc + 1 = pc') (K : GG X bc bs w pc' lv (vR (rdw w a i) :: st)) : GG X bc bs w pc lv (vI i :: vR a :: st) := by
  subst hp
  intro H locs ls cells slots hR b c e f
  obtain ⟨hx, hb, hml, hown, hts, hKn, hSt, hRm, hTr, hlE, hbs, hlk, hE⟩ := h
  subst hE
  rw [vR_pos ha]
  have h1 := wRep_arr hR ha (by omega)
  have hr : (aT (kdw w a)).isReference = true ∧ ∀ x, tv (aT (kdw w a)) x = vR x := by
    unfold aT ak
    by_cases h5 : 55 ≤ kdw w a
    · rw [if_neg (by omega), if_pos h5]; exact ⟨rfl, fun _ => rfl⟩
    · rw [if_neg (by omega), if_neg h5, show kdw w a - 50 = 4 by omega]; exact ⟨rfl, fun _ => rfl⟩
  refine W.aald (v := vR (rdw w a i)) (ty := aT (kdw w a)) hx hb h1 ((arr_of hKn (by omega)).2 _ _) hr.1 (fun q => by cases q) (in_of hi).1 ?_ rfl rfl dg (K H locs ls cells slots hR b c e f)
  rw [(in_of hi).2]
  show some (tv (aT (kdw w a)) (rdw w a (i.toNat : Int))) = _
  rw [Int.toNat_of_nonneg hi.1, hr.2]
theorem at_ast {k : Nat} {a i x : Int} {H1 : Heap} (hk : 50 ≤ k) (hi : 0 ≤ i ∧ i < lnw w a ∧ i ≤ 2147483647) (e1 : H1[a.toNat]? = some ((arrV (eA E (ak k)) (lnw w a).toNat (fun j => tv (aT k) (rdw w a j))).setSlot (Int32.ofInt i).toNatClampNeg (tv (aT k) x))) :
    wAt E k (lnw w a) (fun j => if j = i then x else rdw w a j) a.toNat H1 := by
  unfold wAt
  rw [if_neg (by omega), e1, arrV_store, (idx_of (i := i) (by omega)).1]
  congr 2
  funext j
  unfold updV
  by_cases hj : j = i.toNat
  · have h2 : (j : Int) = i := by omega
    rw [if_pos hj]
    show tv (aT k) x = tv (aT k) (if (j : Int) = i then x else rdw w a j)
    rw [if_pos h2]
  · have h2 : ¬ (j : Int) = i := by omega
    rw [if_neg hj]
    show tv (aT k) (rdw w a j) = tv (aT k) (if (j : Int) = i then x else rdw w a j)
    rw [if_neg h2]
theorem g_iast {a i x : Int} (h : Ok X E own cc nL d) (dg : decode cc pc = .ok (.iastore, 1)) (ha : (eB E : Int) ≤ a) (hk : kdw w a = 50) (hi : 0 ≤ i ∧ i < lnw w a ∧ i ≤ 2147483647) (hp : pc + 1 = pc') (K : GG X bc bs (upw w a i x) pc' lv st) : GG X bc bs w pc lv (vI x :: vI i :: vR a :: st) := by
  subst hp
  intro H locs ls cells slots hR b c e f
  obtain ⟨hx, hb, hml, hown, hts, hKn, hSt, hRm, hTr, hlE, hbs, hlk, hE⟩ := h
  subst hE
  have h0 : 0 ≤ a := by omega
  rw [vR_pos h0]
  have h1 := wRep_arr hR h0 (by omega)
  rw [hk] at h1
  refine W.iast hx hb h1 ((arr_of hKn (k := 50) (by omega)).2 _ _) (fun q => by cases q) (in_of hi).1 rfl rfl dg fun H1 e1 z oq => ?_
  refine K H1 _ ls cells slots (wRep_up hR h0 z oq ?_) (b.put z oq (show eB (cV X) ≤ a.toNat by omega)) c e f
  rw [hk]
  exact at_ast (k := 50) (by omega) hi e1
theorem g_zast {a i x : Int} (h : Ok X E own cc nL d) (dg : decode cc pc = .ok (.bastore, 1)) (ha : (eB E : Int) ≤ a) (hk : kdw w a = 51) (hi : 0 ≤ i ∧ i < lnw w a ∧ i ≤ 2147483647) (hv : x = 0 ∨ x = 1) (hp : pc + 1 = pc') (K : GG X bc bs (upw w a i x) pc' lv st) : GG X bc bs w pc lv (vI x :: vI i :: vR a :: st) := by
  subst hp
  intro H locs ls cells slots hR b c e f
  obtain ⟨hx, hb, hml, hown, hts, hKn, hSt, hRm, hTr, hlE, hbs, hlk, hE⟩ := h
  subst hE
  have h0 : 0 ≤ a := by omega
  rw [vR_pos h0]
  have h1 := wRep_arr hR h0 (by omega)
  rw [hk] at h1
  refine W.zast hx hb h1 ((arr_of hKn (k := 51) (by omega)).2 _ _) (fun q => by cases q) (in_of hi).1 rfl rfl dg fun H1 e1 z oq => ?_
  refine K H1 _ ls cells slots (wRep_up hR h0 z oq ?_) (b.put z oq (show eB (cV X) ≤ a.toNat by omega)) c e f
  rw [hk]
  exact at_ast (k := 51) (by omega) hi (by rw [e1]; rcases hv with rfl | rfl <;> rfl)
theorem g_last {a i x : Int} (h : Ok X E own cc nL d) (dg : decode cc pc = .ok (.lastore, 1)) (ha : (eB E : Int) ≤ a) (hk : kdw w a = 52) (hi : 0 ≤ i ∧ i < lnw w a ∧ i ≤ 2147483647) (hp : pc + 1 = pc') (K : GG X bc bs (upw w a i x) pc' lv st) : GG X bc bs w pc lv (vL x :: vI i :: vR a :: st) := by
  subst hp
  intro H locs ls cells slots hR b c e f
  obtain ⟨hx, hb, hml, hown, hts, hKn, hSt, hRm, hTr, hlE, hbs, hlk, hE⟩ := h
  subst hE
  have h0 : 0 ≤ a := by omega
  rw [vR_pos h0]
  have h1 := wRep_arr hR h0 (by omega)
  rw [hk] at h1
  refine W.last hx hb h1 ((arr_of hKn (k := 52) (by omega)).2 _ _) (fun q => by cases q) (in_of hi).1 rfl rfl dg fun H1 e1 z oq => ?_
  refine K H1 _ ls cells slots (wRep_up hR h0 z oq ?_) (b.put z oq (show eB (cV X) ≤ a.toNat by omega)) c e f
  rw [hk]
  exact at_ast (k := 52) (by omega) hi e1
theorem g_dast {a i x : Int} (h : Ok X E own cc nL d) (dg : decode cc pc = .ok (.dastore, 1)) (ha : (eB E : Int) ≤ a) (hk : kdw w a = 53) (hi : 0 ≤ i ∧ i < lnw w a ∧ i ≤ 2147483647) (hp : pc + 1 = pc') (K : GG X bc bs (upw w a i x) pc' lv st) : GG X bc bs w pc lv (vD x :: vI i :: vR a :: st) := by
  subst hp
  intro H locs ls cells slots hR b c e f
  obtain ⟨hx, hb, hml, hown, hts, hKn, hSt, hRm, hTr, hlE, hbs, hlk, hE⟩ := h
  subst hE
  have h0 : 0 ≤ a := by omega
  rw [vR_pos h0]
  have h1 := wRep_arr hR h0 (by omega)
  rw [hk] at h1
  refine W.dast hx hb h1 ((arr_of hKn (k := 53) (by omega)).2 _ _) (fun q => by cases q) (in_of hi).1 rfl rfl dg fun H1 e1 z oq => ?_
  refine K H1 _ ls cells slots (wRep_up hR h0 z oq ?_) (b.put z oq (show eB (cV X) ≤ a.toNat by omega)) c e f
  rw [hk]
  exact at_ast (k := 53) (by omega) hi e1
/-- what may be put into an array of references: null, or an object of ours -/
def okr (w : Wd) (x : Int) : Prop := x < 0 ∨ (1 ≤ kdw w x ∧ kdw w x ≤ 10)
theorem okr_any {s : State} {H : Heap} {x : Int} (hK : Kn E s) (hR : wRep E w H) (h0 : 0 ≤ x) (hx : okr w x) : va_Any "java/lang/Object" s H x.toNat := by
  rcases hx with hx | ⟨h1, h2⟩
  · omega
  · have hl : kdw w x - 1 < GC.length := by have e : GC.length = 10 := rfl; omega
    obtain ⟨r, hr⟩ : ∃ r, GC[kdw w x - 1]? = some r := ⟨_, List.getElem?_eq_getElem hl⟩
    obtain ⟨C, T, N⟩ := r
    obtain ⟨cell, g1, g2, g3⟩ := ob_at hK hR h0 (show kdw w x = kdw w x - 1 + 1 by omega) hr
    obtain ⟨kC, hkC, -⟩ := Vm.findClass_spec g3
    refine ⟨cell, g1, g2, ⟨kC, hkC⟩, fun comp hcomp => ?_⟩
    have hw := hK.2.2.2.2.2.1 _ (List.mem_of_getElem? hr)
    obtain ⟨c3, c4, e3, e4, hasg⟩ := Cond.castable_spec hw
    cases e3.symm.trans g3
    cases e4.symm.trans hcomp
    exact hasg
theorem g_aast {a i x : Int} (h : Ok X E own cc nL d) (dg : decode cc pc = .ok (.aastore, 1)) (ha : (eB E : Int) ≤ a) (hk : 55 ≤ kdw w a) (hi : 0 ≤ i ∧ i < lnw w a ∧ i ≤ 2147483647) (hv : okr w x) (hp : pc + 1 = pc') (K : GG X bc bs (upw w a i x) pc' lv st) : GG X bc bs w pc lv (vR x :: vI i :: vR a :: st) := by
  subst hp
  intro H locs ls cells slots hR b c e f
  obtain ⟨hx, hb, hml, hown, hts, hKn, hSt, hRm, hTr, hlE, hbs, hlk, hE⟩ := h
  subst hE
  have h0 : 0 ≤ a := by omega
  rw [vR_pos h0]
  have h1 := wRep_arr hR h0 (by omega)
  have hak : ak (kdw w a) = 5 := by unfold ak; rw [if_neg (by omega), if_pos hk]
  have hat : aT (kdw w a) = .object "java/lang/Object" := by unfold aT; rw [hak]; rfl
  have hfin : ∀ H1 : Heap, H1[a.toNat]? = some ((arrV (eA (cV X) (ak (kdw w a))) (lnw w a).toNat (fun j => tv (aT (kdw w a)) (rdw w a j))).setSlot (Int32.ofInt i).toNatClampNeg (vR x)) → H1.size = H.size → (∀ q : Nat, q ≠ a.toNat → H1[q]? = H[q]?) →
      W (cP X) (cL X) (cE X) (cR X) (cS X) (cM X) (cA X) (cB X) (cH X) (cC X) H1 (locs ++ [⟨a.toNat, (Int32.ofInt i).toNatClampNeg⟩]) cells slots (cZ X) (F0 (cM X) (pc + 1) ls st) := fun H1 e1 z oq => by
    refine K H1 _ ls cells slots (wRep_up hR h0 z oq (at_ast (by omega) hi ?_)) (b.put z oq (show eB (cV X) ≤ a.toNat by omega)) c e f
    rw [e1, hat]
    rfl
  by_cases hx0 : x < 0
  · rw [vR_neg hx0] at hfin ⊢
    exact va_WaastN (C := "java/lang/Object") hx hb h1 (by have := (arr_of hKn (k := kdw w a) (by omega)).2; rw [hat] at this; rw [hat]; exact this _ _) (fun q => by cases q) (in_of hi).1 rfl rfl dg fun H1 e1 z oq => hfin H1 e1 z oq
  · obtain ⟨cellV, g1, g2, ⟨kV, hkV⟩, hasg⟩ := okr_any hKn hR (by omega) hv
    obtain ⟨kA, comp, k1, k2, k3, -⟩ := (hKn.2.1 5 (by omega)).2
    obtain ⟨kC, hkC, -⟩ := Vm.findClass_spec k3
    rw [vR_pos (by omega : 0 ≤ x)] at hfin ⊢
    obtain ⟨z1, z2⟩ := (in_of (cA := eA (cV X) (ak (kdw w a))) (f := fun j => tv (aT (kdw w a)) (rdw w a j)) hi).1 |> not_or.mp
    refine W.aast hx hb h1 (fun q h => by cases h) (fun h => by cases h) (by show (cS X).vm.classes[eA (cV X) (ak (kdw w a))]? = some kA; rw [hak]; exact k1) k2 rfl hkC ⟨z1, Nat.not_le.mp z2⟩ g1 (fun q h => by rw [h] at g2; cases g2) hkV (hasg comp k3) rfl rfl dg fun H1 e1 z oq => hfin H1 e1 z oq
theorem at_arr {k : Nat} {N : Nat} {H1 : Heap} {q : Nat} {x : Int} (hk : 50 ≤ k) (e1 : H1[q]? = some (arrV (eA E (ak k)) N (fun _ => tv (aT k) x))) : wAt E k (N : Int) (fun _ => x) q H1 := by
  unfold wAt
  rw [if_neg (by omega), e1]
  rfl
/-- the class of a made array is the known one -/
theorem ra_p {U : State} {c : ClassId} {ty : FieldType} (hty : ∀ C, ty ≠ .object C) (h : va_RA U c ty) : U.vm.findClass ("[" ++ ty.toString) = some c := by
  cases ty with
  | object C => exact absurd rfl (hty C)
  | _ => exact h
theorem va_ra_eq {s : State} {t : Nat} {cA : ClassId} (hK : Kn E s) (ht : t < 5) (h : s.vm.findClass ("[" ++ (aF t).toString) = some cA) : cA = eA E t := by
  refine Option.some.inj (h.symm.trans (ra_p (fun C => ?_) (hK.2.1 t (by omega)).2))
  match t, ht with
  | 0, _ => intro q; cases q
  | 1, _ => intro q; cases q
  | 2, _ => intro q; cases q
  | 3, _ => intro q; cases q
  | 4, _ => intro q; cases q
theorem g_newa {atype : ArrayType} {n : Int} (t : Nat) (N : Nat) (h : Ok X E own cc nL d) (dg : decode cc pc = .ok (.newarray atype, 2)) (ht : t < 5) (hty : newarray.typeOf atype = aF t) (hq : Jvm.Cond.arrayClass (aF t) ∈ lw_all) (hn : n = (N : Int)) (hN : N ≤ 1000000) (hc1 : 1 ≤ bc) (hc2 : N ≤ bs) (hp : pc + 2 = pc') (K : GG X (bc - 1) (bs - N) (alw w (50 + t) n (fun _ => dv (aF t))) pc' lv (vR (szw w) :: st)) : GG X bc bs w pc lv (vI n :: st) := by
  subst hp
  intro H locs ls cells slots hR b c e f
  obtain ⟨hx, hb, hml, hown, hts, hKn, hSt, hRm, hTr, hlE, hbs, hlk, hE⟩ := h
  subst hE
  have hs := wRep_size hR
  obtain ⟨i1, i2⟩ := idx_of (i := n) (by omega)
  have hcb : componentBytes (newarray.typeOf atype) ≤ 8 := by cases atype <;> decide
  have hak : ak (50 + t) = t := by unfold ak; rw [if_neg (by omega), if_neg (by omega)]; omega
  refine va_newaK hx hb (by rw [hty]; exact hts _ hq) rfl dg rfl i2 (N := N) (by rw [i1, hn]; simp) (by have := Nat.mul_le_mul hN hcb; omega) (by omega) (by omega) rfl fun H' cA e1 z1 o1 hAr hNm => ?_
  have hcA : cA = eA (cV X) t := va_ra_eq hKn ht (by rw [← hty]; exact hNm)
  have hv : vR (szw w) = .ref H.size := by rw [← hR.1]; exact vR_nat _
  rw [hv] at K
  refine K H' _ ls _ _ (wRep_al hR z1 o1 (fun _ => ?_)) ⟨Nat.le_trans b.1 (by omega), fun x h1 h2 => (o1 x (Nat.lt_of_lt_of_le h1 b.1)).trans (b.2.1 x h1 h2), b.2.2⟩ c (by omega) (by omega)
  rw [hn]
  refine at_arr (k := 50 + t) (by omega) ?_
  rw [e1, hak, hcA, hty]
  congr 2
  funext _
  unfold aT
  rw [hak, tv_dv]
theorem g_anew {idx : Nat} {n : Int} (k : Nat) (N : Nat) (h : Ok X E own cc nL d) (dg : decode cc pc = .ok (.anewarray idx, 3)) (hk : 55 ≤ k) (hq : Jvm.Cond.classLink own idx "java/lang/Object" ∈ lw_all) (hn : n = (N : Int)) (hN : N ≤ 1000000) (hc1 : 1 ≤ bc) (hc2 : N ≤ bs) (hp : pc + 3 = pc') (K : GG X (bc - 1) (bs - N) (alw w k n (fun _ => -1)) pc' lv (vR (szw w) :: st)) : GG X bc bs w pc lv (vI n :: st) := by
  subst hp
  intro H locs ls cells slots hR b c e f
  obtain ⟨hx, hb, hml, hown, hts, hKn, hSt, hRm, hTr, hlE, hbs, hlk, hE⟩ := h
  subst hE
  have hs := wRep_size hR
  obtain ⟨i1, i2⟩ := idx_of (i := n) (by omega)
  have hak : ak k = 5 := by unfold ak; rw [if_neg (by omega), if_pos hk]
  have hN2 : (Int32.ofInt n).toNatClampNeg = N := by rw [i1, hn]; simp
  refine W.anew hx hb hown (hts _ hq) (va_AO.use hKn.2.2.2.2.2.2.1) rfl dg rfl i2 (by rw [hN2]; omega) (by omega) (by rw [hN2]; omega) fun cA kA comp f1 f2 f3 f4 => ?_
  rw [hN2]
  generalize hH1 : H.push ({ cls := cA, slots := Array.replicate N .null, vm := .none } : Cell) = H1
  have z1 : H1.size = H.size + 1 := by rw [← hH1, Array.size_push]
  have e1 : H1[H.size]? = some (arrV cA N (fun _ => .null)) := by rw [← hH1, Array.getElem?_push_size, ← arrV_new]
  have o1 : ∀ q : Nat, q < H.size → H1[q]? = H[q]? := fun q hq => by rw [← hH1, Array.getElem?_push, if_neg (Nat.ne_of_lt hq)]
  have hcA : cA = eA (cV X) 5 := by
    obtain ⟨kA', comp', k1, k2, k3, k4⟩ := (hKn.2.1 5 (by omega)).2
    exact Option.some.inj (f1.symm.trans k4)
  have hv : vR (szw w) = .ref H.size := by rw [← hR.1]; exact vR_nat _
  rw [hv] at K
  refine K H1 _ ls _ _ (wRep_al hR z1 o1 (fun _ => ?_)) ⟨Nat.le_trans b.1 (by omega), fun x h1 h2 => (o1 x (Nat.lt_of_lt_of_le h1 b.1)).trans (b.2.1 x h1 h2), b.2.2⟩ c (by omega) (by omega)
  rw [hn]
  refine at_arr (k := k) (by omega) ?_
  rw [e1, hak, hcA]
  congr 2
  funext _
  unfold aT
  rw [hak]
  rfl
theorem g_new {idx ci : Nat} {C : String} {T : u_T} {N : Nat} (g : Int → Int) (h : Ok X E own cc nL d) (dg : decode cc pc = .ok (.new idx, 3)) (hc : GC[ci]? = some (C, T, N)) (hq : Jvm.Cond.classLink own idx C ∈ lw_all) (hq2 : Jvm.Cond.instantiable C N ∈ lw_all) (hq3 : Jvm.Cond.initialized C ∈ lw_all) (hg : ∀ j : Nat, j < N → g j = dv (ft (ci + 1) j)) (hc1 : 1 ≤ bc) (hc2 : N ≤ bs) (hp : pc + 3 = pc') (K : GG X (bc - 1) (bs - N) (alw w (ci + 1) 0 g) pc' lv (vR (szw w) :: st)) : GG X bc bs w pc lv st := by
  subst hp
  intro H locs ls cells slots hR b c e f
  obtain ⟨hx, hb, hml, hown, hts, hKn, hSt, hRm, hTr, hlE, hbs, hlk, hE⟩ := h
  subst hE
  have h50 : ci + 1 < 49 := by
    have := (List.getElem?_eq_some_iff.mp hc).1
    have e : GC.length = 10 := rfl
    omega
  have hKc := hKn.1.1 ci _ hc
  refine W.newcK hx hb hown (hts _ hq) (hts _ hq2) (hts _ hq3) rfl dg (by omega) (by omega) hKc.2.1 rfl fun H1 kC hkC e1 z1 o1 => ?_
  have hv : vR (szw w) = .ref H.size := by rw [← hR.1]; exact vR_nat _
  rw [hv] at K
  refine K H1 _ ls _ _ (wRep_al hR z1 o1 (fun _ => ?_)) ⟨Nat.le_trans b.1 (by omega), fun x h1 h2 => (o1 x (Nat.lt_of_lt_of_le h1 b.1)).trans (b.2.1 x h1 h2), b.2.2⟩ c (by omega) (by omega)
  unfold wAt
  rw [if_pos h50]
  refine ⟨(C, T, N), hc, (u_born (ft (ci + 1)) hts (GC_ok hc).1 hKc hkC e1 (GC_ok hc).2.1).to (fun j hj => ?_)⟩
  rw [hg j hj, tv_dv]
/-! casts, statics -/
theorem g_cast {idx ci : Nat} {C : String} {T : u_T} {N : Nat} {a : Int} (h : Ok X E own cc nL d) (dg : decode cc pc = .ok (.checkcast idx, 3)) (hc : GC[ci]? = some (C, T, N)) (hq : Jvm.Cond.classLink own idx C ∈ lw_all) (ha : 0 ≤ a) (hk : kdw w a = ci + 1) (hp : pc + 3 = pc') (K : GG X bc bs w pc' lv (vR a :: st)) : GG X bc bs w pc lv (vR a :: st) := by
  subst hp
  intro H locs ls cells slots hR b c e f
  obtain ⟨hx, hb, hml, hown, hts, hKn, hSt, hRm, hTr, hlE, hbs, hlk, hE⟩ := h
  subst hE
  have hcell := ob_at hKn hR ha hk hc
  have hk := K H locs ls cells slots hR b c e f
  rw [vR_pos ha] at hk ⊢
  exact va_castS hx hb hown (hts _ hq) (hKn.1.1 ci _ hc).2 hcell dg hk
theorem g_gets {idx : Nat} {C n ds ref : String} {v : Value} (h : Ok X E own cc nL d) (dg : decode cc pc = .ok (.getstatic idx, 3)) (hZ : ∀ U H, wSta E U H → va_Z C n ds v (bA E) U H) (hq : Jvm.Cond.fieldLink own idx C n ds ∈ lw_all) (hp : pc + 3 = pc') (K : GG X bc bs w pc' lv (v :: st)) : GG X bc bs w pc lv st := by
  subst hp
  intro H locs ls cells slots hR b c e f
  obtain ⟨hx, hb, hml, hown, hts, hKn, hSt, hRm, hTr, hlE, hbs, hlk, hE⟩ := h
  subst hE
  exact va_gets hx hb (hZ _ _ hSt) b hown (hts _ hq) (fun x h => h) dg (K H locs ls cells slots hR b c e f)
end RW1
