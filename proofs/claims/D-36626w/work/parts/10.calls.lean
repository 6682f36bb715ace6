/-! RETURNS, STARTS, CALLS -/
set_option maxRecDepth 100000
section RW2
variable {X : Cx} {E : Ev} {own : String} {cc : ByteArray} {nL d bc bs : Nat} {w : Wd} {pc pc' : Nat} {lv : List (Nat × Int)} {st : List Value} {Q : Nat → Option Value → Wd → Prop}
theorem g_iret {x : Int} {t : FieldType} (h : Ok X E own cc nL d) (hF : Fz X Q (some t)) (dg : decode cc pc = .ok (.ireturn, 1)) (ht : t = .int ∨ t = .boolean) (hv : okv t x) (hQ : Q 0 (some (vI x)) w) : GG X bc bs w pc lv [vI x] := by
  intro H locs ls cells slots hR b c e f
  obtain ⟨hx, hb, hml, hown, hts, hKn, hSt, hRm, hTr, hlE, hbs, hlk, hE⟩ := h
  rw [hF.1]
  refine vx_ret (W.widen (k := (cR X).cells) (n := (cR X).slots) (by omega) (by omega) ?_)
  refine W.zret hx hb hF.2.1 ?_ (fun t ht hW => ⟨⟨some (vI x), w, hQ, rfl, by rw [ht]; exact hR⟩, b.F ht⟩) b.2.2 dg hlk
  have h1 := (okv_n hv).1
  rcases ht with rfl | rfl
  · rfl
  · exact h1
theorem g_lret {x : Int} (h : Ok X E own cc nL d) (hF : Fz X Q (some .long)) (dg : decode cc pc = .ok (.lreturn, 1)) (hQ : Q 0 (some (vL x)) w) : GG X bc bs w pc lv [vL x] := by
  intro H locs ls cells slots hR b c e f
  obtain ⟨hx, hb, hml, hown, hts, hKn, hSt, hRm, hTr, hlE, hbs, hlk, hE⟩ := h
  rw [hF.1]
  refine vx_ret (W.widen (k := (cR X).cells) (n := (cR X).slots) (by omega) (by omega) ?_)
  exact W.lret hx hb hF.2.1 (fun t ht hW => ⟨⟨some (vL x), w, hQ, rfl, by rw [ht]; exact hR⟩, b.F ht⟩) b.2.2 dg hlk
theorem g_fret {x : UInt32} (h : Ok X E own cc nL d) (hF : Fz X Q (some .float)) (dg : decode cc pc = .ok (.freturn, 1)) (hQ : Q 0 (some (.float x)) w) : GG X bc bs w pc lv [.float x] := by
  intro H locs ls cells slots hR b c e f
  obtain ⟨hx, hb, hml, hown, hts, hKn, hSt, hRm, hTr, hlE, hbs, hlk, hE⟩ := h
  rw [hF.1]
  refine vx_ret (W.widen (k := (cR X).cells) (n := (cR X).slots) (by omega) (by omega) ?_)
  exact W.fret hx hb hF.2.1 (fun t ht hW => ⟨⟨some (.float x), w, hQ, rfl, by rw [ht]; exact hR⟩, b.F ht⟩) b.2.2 dg hlk
theorem g_dret {x : UInt64} (h : Ok X E own cc nL d) (hF : Fz X Q (some .double)) (dg : decode cc pc = .ok (.dreturn, 1)) (hQ : Q 0 (some (.double x)) w) : GG X bc bs w pc lv [.double x] := by
  intro H locs ls cells slots hR b c e f
  obtain ⟨hx, hb, hml, hown, hts, hKn, hSt, hRm, hTr, hlE, hbs, hlk, hE⟩ := h
  rw [hF.1]
  refine vx_ret (W.widen (k := (cR X).cells) (n := (cR X).slots) (by omega) (by omega) ?_)
  exact W.dret hx hb hF.2.1 (fun t ht hW => ⟨⟨some (.double x), w, hQ, rfl, by rw [ht]; exact hR⟩, b.F ht⟩) b.2.2 dg hlk
theorem g_aret {x : Int} {t : FieldType} (h : Ok X E own cc nL d) (hF : Fz X Q (some t)) (dg : decode cc pc = .ok (.areturn, 1)) (ht : t.isReference = true) (hQ : Q 0 (some (vR x)) w) : GG X bc bs w pc lv [vR x] := by
  intro H locs ls cells slots hR b c e f
  obtain ⟨hx, hb, hml, hown, hts, hKn, hSt, hRm, hTr, hlE, hbs, hlk, hE⟩ := h
  rw [hF.1]
  refine vx_ret (W.widen (k := (cR X).cells) (n := (cR X).slots) (by omega) (by omega) ?_)
  refine W.aret hx hb hF.2.1 ?_ ?_ (fun t ht hW => ⟨⟨some (vR x), w, hQ, rfl, by rw [ht]; exact hR⟩, b.F ht⟩) b.2.2 dg hlk
  · cases t <;> first | exact Or.inl ⟨_, rfl⟩ | exact Or.inr ⟨_, rfl⟩ | exact absurd ht (by decide)
  · unfold vR
    cases ro x with
    | none => exact Or.inl rfl
    | some y => exact Or.inr ⟨y, rfl⟩
theorem g_vret (h : Ok X E own cc nL d) (hF : Fz X Q none) (dg : decode cc pc = .ok (.return_, 1)) (hQ : Q 0 none w) : GG X bc bs w pc lv [] := by
  intro H locs ls cells slots hR b c e f
  obtain ⟨hx, hb, hml, hown, hts, hKn, hSt, hRm, hTr, hlE, hbs, hlk, hE⟩ := h
  rw [hF.1]
  refine vx_ret (W.widen (k := (cR X).cells) (n := (cR X).slots) (by omega) (by omega) ?_)
  exact W.vret hx hb hF.2.1 (fun t ht hW => ⟨⟨none, w, hQ, rfl, by rw [ht]; exact hR⟩, b.F ht⟩) b.2.2 dg hlk
/-! the start of a contract -/
def spr : List (Nat × Int) → List (Nat × Int)
  | [] => []
  | q :: l => if q.1 = 2 ∨ q.1 = 4 then q :: (9, 0) :: spr l else q :: spr l
def lvA (n : Nat) (av : List (Nat × Int)) : List (Nat × Int) := spr av ++ List.replicate (n - (spr av).length) (9, 0)
def avV (av : List (Nat × Int)) : List Value := av.map fun q => tvv q.1 q.2
theorem tvv_cat {t : Nat} {x : Int} (h : t < 5) : (tvv t x).category = if t = 2 ∨ t = 4 then 2 else 1 := by
  match t, h with
  | 0, _ => rfl
  | 1, _ => exact vR_cat x
  | 2, _ => rfl
  | 3, _ => rfl
  | 4, _ => rfl
theorem spr_len : ∀ {av : List (Nat × Int)}, (∀ q ∈ av, q.1 < 5) → (lg_sl (avV av)).length = (spr av).length := by
  intro av
  induction av with
  | nil => intro _; rfl
  | cons q l ih =>
    intro h
    have h1 := ih (fun z hz => h z (List.mem_cons_of_mem _ hz))
    have hc := tvv_cat (x := q.2) (h q List.mem_cons_self)
    have e : lg_sl (avV (q :: l)) = (if (tvv q.1 q.2).category = 2 then [.val (tvv q.1 q.2), .second] else [.val (tvv q.1 q.2)]) ++ lg_sl (avV l) := by
      unfold avV lg_sl
      rw [List.map_cons, List.flatMap_cons]
    rw [e, hc]
    unfold spr
    by_cases hq : q.1 = 2 ∨ q.1 = 4
    · simp [hq, h1]
    · simp [hq, h1]
theorem spr_args : ∀ {av : List (Nat × Int)}, (∀ q ∈ av, q.1 < 5) → ∀ (i j t : Nat) (x : Int), (spr av)[j]? = some (t, x) → t ≠ 9 → (i + j, tvv t x) ∈ lv_args i (avV av) := by
  intro av
  induction av with
  | nil => intro _ i j t x h; simp [spr] at h
  | cons q l ih =>
    intro h i j t x hj ht
    have ih1 := ih (fun z hz => h z (List.mem_cons_of_mem _ hz))
    have hc := tvv_cat (x := q.2) (h q List.mem_cons_self)
    have e : lv_args i (avV (q :: l)) = (i, tvv q.1 q.2) :: lv_args (if (tvv q.1 q.2).category = 2 then i + 2 else i + 1) (avV l) := rfl
    rw [e, hc]
    unfold spr at hj
    by_cases hq : q.1 = 2 ∨ q.1 = 4
    · rw [if_pos hq] at hj
      rw [if_pos hq, if_pos rfl]
      match j, hj with
      | 0, hj => simp at hj; subst hj; exact List.mem_cons_self
      | 1, hj => simp at hj; exact absurd hj.1.symm ht
      | j + 2, hj =>
        have h2 := ih1 (i + 2) j t x (by simpa using hj) ht
        rw [show i + 2 + j = i + (j + 2) by omega] at h2
        exact List.mem_cons_of_mem _ h2
    · rw [if_neg hq] at hj
      rw [if_neg hq, if_neg (by decide)]
      match j, hj with
      | 0, hj => simp at hj; subst hj; exact List.mem_cons_self
      | j + 1, hj =>
        have h2 := ih1 (i + 1) j t x (by simpa using hj) ht
        rw [show i + 1 + j = i + (j + 1) by omega] at h2
        exact List.mem_cons_of_mem _ h2
theorem call_of {y : MethodName} {ret : Option FieldType} {mc ms : Nat} {av : List (Nat × Int)} (hy : plainName y.cls = true) (hav : av.all (fun q => q.1 < 5) = true) (hn : (spr av).length ≤ nL)
    (body : ∀ X : Cx, Ok X E y.cls cc nL d → Fz X Q ret → (cH X).name = y.name → GG X mc ms w 0 (lvA nL av) []) : Call E (y, cc, nL, ret) d mc ms (avV av) w Q := by
  have hav2 : ∀ q ∈ av, q.1 < 5 := fun q hq => by simpa using List.all_eq_true.mp hav q hq
  refine vx_ofW (cc := cc) (maxL := nL) (ret := ret) hy rfl ?_
  intro p e s m args below meth c s₁ B hml hex hv
  obtain ⟨hargs, hKn, hR, hSt, hbs, hTr⟩ := hv
  subst hargs
  have hts := atoms_spec (ws := ws_ y cc nL ret) B.pre
  have hts : ∀ w ∈ lw_all, w.before _ s = true := fun w h => hts w (List.mem_cons_of_mem _ h)
  have hlen := spr_len hav2
  have hl := lv_entry (avV av) (n := nL) (by rw [hlen]; exact hn)
  have hname : meth.name = y.name := (name_of_methodNamed B.named B.method).1
  rw [lg_entry_eq]
  refine body (p, eL E, e, (headSpec (ws_ y cc nL ret) { frames := d, cells := mc, slots := ms, locals := 64 * d }).room, s, m, (avV av).toArray, below, meth, c, _, E)
    ⟨B.exec, B.bytes, hml, findClass_of_methodNamed B.named, hts, hKn, hSt, ⟨Nat.le_refl _, Nat.le_refl _⟩, hTr, rfl, hbs, B.notSynchronized, rfl⟩ ⟨rfl, B.returns, hex⟩ hname s.heap [] _ 0 0 hR va_S.rf ?_ (by show 0 + mc ≤ mc; omega) (by show 0 + ms ≤ ms; omega)
  refine ⟨by rw [show (cC _).maxLocals = nL from hml]; exact hl.1, hl.2.1, fun j t x hj ht => ?_⟩
  by_cases hjl : j < (spr av).length
  · unfold lvA at hj
    rw [List.getElem?_append_left hjl] at hj
    have h2 := spr_args hav2 0 j t x hj ht
    rw [Nat.zero_add] at h2
    exact hl.2.2 _ h2
  · unfold lvA at hj
    rw [List.getElem?_append_right (by omega)] at hj
    have h2 := List.eq_of_mem_replicate (List.mem_of_getElem? hj)
    cases h2
    exact absurd rfl ht
/-! behind a call -/
theorem keep_S {A0 : Nat → Prop} {H0 H : Heap} {locs L : List Loc} {st₀ t : State} {H1 : Heap} (h0 : st₀.heap = H) (e1 : H1 = t.heap) (hS : va_S A0 H0 H locs) (hL : ∀ q ∈ L, A0 q.base) (hF : va_F A0 st₀ t) : va_S A0 H0 H1 (locs ++ L) := by
  obtain ⟨hz, hk⟩ := hF
  rw [h0] at hz hk
  exact ⟨Nat.le_trans hS.1 (by rw [e1]; exact hz), fun q h1 h2 => by rw [e1, hk q (Nat.lt_of_lt_of_le h1 hS.1) h2]; exact hS.2.1 q h1 h2, fun q hq => by
      rcases List.mem_append.mp hq with h | h
      · exact hS.2.2 q h
      · exact hL q h⟩
theorem call_done {H : Heap} {locs : List Loc} {ls : Array Slot} {cells slots mc ms : Nat} {st0 rest : List Value} {a : Array Value} (hb : va_S (bA (cV X)) (cS X).heap H locs) (hc : lvH ls (cC X).maxLocals lv) (e1 : cells + bc ≤ (cR X).cells) (f1 : slots + bs ≤ (cR X).slots) (hm : mc ≤ bc ∧ ms ≤ bs)
    (hr : vx_Run (cP X) (cL X) (cE X) (cR X) (cS X) (cM X) (cA X) (cB X) (cH X) (cC X) H locs cells slots mc ms (F0 (cM X) pc ls st0) rest (QcOf (cV X) Q a) (XCOf (cV X) Q) (bA (cV X)))
    (kk : ∀ v w', Q 0 v w' → GG X (bc - mc) (bs - ms) w' (pc + 3) lv (v.toList ++ rest)) (kx : ∀ k w', k ≠ 0 → Q k none w' → GX X (bc - mc) (bs - ms) w' pc lv (xn k)) :
    W (cP X) (cL X) (cE X) (cR X) (cS X) (cM X) (cA X) (cB X) (cH X) (cC X) H locs cells slots (cZ X) (F0 (cM X) pc ls st0) := by
  intro T hT XS
  rcases hr T hT XS with ⟨v, st₀, t, T', L, h0, X', hL, e2, e3, ⟨⟨v', w', hQ, hv, hR⟩, hF⟩, go⟩ | ⟨q, st₀, t, T', L, N, ce, h0, X', hL, e2, e3, ⟨⟨k, w', hk0, hQ, hN, hR⟩, hF⟩, hce, hcv, hcl, go⟩
  · cases hv
    obtain ⟨t2, a1, b1⟩ := kk v w' hQ T'.heap (locs ++ L) ls (cells + mc) (slots + ms) (by rw [e2]; exact hR) (keep_S h0 e2 hb hL hF) hc (by omega) (by omega) T' rfl X'
    exact ⟨t2, go t2 a1, b1⟩
  · subst hN
    obtain ⟨t2, a1, b1⟩ := kx k w' hk0 hQ T'.heap (locs ++ L) ls (cells + mc) (slots + ms) rest q ce (by rw [e2]; exact hR) (keep_S h0 e2 hb hL hF) hc (by omega) (by omega) (by rw [e2]; exact hce) hcv hcl T' rfl X'
    exact ⟨t2, go.trans a1, b1⟩
theorem call_done5 {H : Heap} {locs : List Loc} {ls : Array Slot} {cells slots mc ms : Nat} {st0 rest : List Value} {a : Array Value} (hb : va_S (bA (cV X)) (cS X).heap H locs) (hc : lvH ls (cC X).maxLocals lv) (e1 : cells + bc ≤ (cR X).cells) (f1 : slots + bs ≤ (cR X).slots) (hm : mc ≤ bc ∧ ms ≤ bs)
    (hr : vx_Run5 (cP X) (cL X) (cE X) (cR X) (cS X) (cM X) (cA X) (cB X) (cH X) (cC X) H locs cells slots mc ms (F0 (cM X) pc ls st0) rest (QcOf (cV X) Q a) (XCOf (cV X) Q) (bA (cV X)))
    (kk : ∀ v w', Q 0 v w' → GG X (bc - mc) (bs - ms) w' (pc + 5) lv (v.toList ++ rest)) (kx : ∀ k w', k ≠ 0 → Q k none w' → GX X (bc - mc) (bs - ms) w' pc lv (xn k)) :
    W (cP X) (cL X) (cE X) (cR X) (cS X) (cM X) (cA X) (cB X) (cH X) (cC X) H locs cells slots (cZ X) (F0 (cM X) pc ls st0) := by
  intro T hT XS
  rcases hr T hT XS with ⟨v, st₀, t, T', L, h0, X', hL, e2, e3, ⟨⟨v', w', hQ, hv, hR⟩, hF⟩, go⟩ | ⟨q, st₀, t, T', L, N, ce, h0, X', hL, e2, e3, ⟨⟨k, w', hk0, hQ, hN, hR⟩, hF⟩, hce, hcv, hcl, go⟩
  · cases hv
    obtain ⟨t2, a1, b1⟩ := kk v w' hQ T'.heap (locs ++ L) ls (cells + mc) (slots + ms) (by rw [e2]; exact hR) (keep_S h0 e2 hb hL hF) hc (by omega) (by omega) T' rfl X'
    exact ⟨t2, go t2 a1, b1⟩
  · subst hN
    obtain ⟨t2, a1, b1⟩ := kx k w' hk0 hQ T'.heap (locs ++ L) ls (cells + mc) (slots + ms) rest q ce (by rw [e2]; exact hR) (keep_S h0 e2 hb hL hF) hc (by omega) (by omega) (by rw [e2]; exact hce) hcv hcl T' rfl X'
    exact ⟨t2, go.trans a1, b1⟩
/-! what a call asks of the tables, once a link -/
def LinkV (own : String) (idx : Nat) (C : String) (M : Mth) (n : Nat) : Prop :=
  GoodIn lw_all (wsV own idx C M.1 (ws_ M.1 M.2.1 M.2.2.1 M.2.2.2)) ∧ (M.1.cls = C ∧ M.1.cls ≠ "java/lang/invoke/MethodHandle" ∧ M.1.cls ≠ "java/lang/invoke/VarHandle" ∧ (parseMethodDescriptor M.1.desc).map (fun d => d.parameters.length) = some n) ∧ M.2.2.1 ≤ 45
def LinkS (own : String) (idx : Nat) (M : Mth) (n : Nat) : Prop :=
  GoodIn lw_all (va_wsS own idx M.1 (ws_ M.1 M.2.1 M.2.2.1 M.2.2.2)) ∧ (M.1.cls ≠ "java/lang/invoke/MethodHandle" ∧ M.1.cls ≠ "java/lang/invoke/VarHandle" ∧ (parseMethodDescriptor M.1.desc).map (fun d => d.parameters.length) = some n) ∧ M.2.2.1 ≤ 45
def LinkI (own : String) (idx : Nat) (M : Mth) (n : Nat) : Prop :=
  (GoodIn lw_all (ws_ M.1 M.2.1 M.2.2.1 none) ∧ M.2.2.2 = none ∧ Jvm.Cond.initialized M.1.cls ∈ lw_all ∧ Jvm.Cond.methodLink own idx M.1 ∈ lw_all ∧ Jvm.Cond.instanceMethod M.1 ∈ lw_all ∧ M.1.name = "<init>") ∧ (M.1.cls ≠ "java/lang/invoke/MethodHandle" ∧ M.1.cls ≠ "java/lang/invoke/VarHandle" ∧ (parseMethodDescriptor M.1.desc).map (fun d => d.parameters.length) = some n) ∧ M.2.2.1 ≤ 45
theorem in_at {H : Heap} {locs : List Loc} {av : List Value} {U : State} (h : Ok X E own cc nL d) (hR : wRep (cV X) w H) (b : va_S (bA (cV X)) (cS X).heap H locs) (hU : U.heap = H) (hW : (cS X).WarmedH U.vm) : av.toArray = av.toArray ∧ wIn (cV X) w U := by
  obtain ⟨hx, hb, hml, hown, hts, hKn, hSt, hRm, hTr, hlE, hbs, hlk, hE⟩ := h
  refine ⟨rfl, Kn_moved hW hKn, by rw [hU]; exact hR, ?_, ?_, by rw [← hlE]; exact hTr⟩
  · rw [hU]
    exact wSta_moved hW.alike (wSta_kept hSt b.2.1)
  · rw [hU]
    exact Nat.le_trans hbs b.1
theorem g_callV {idx ci : Nat} {C : String} {T : u_T} {N n : Nat} {M : Mth} {d' mc ms : Nat} {a : Int} {As st0 : List Value} (h : Ok X E own cc nL d) (dg : decode cc pc = .ok (.invokevirtual idx, 3)) (hl : LinkV own idx C M n) (hc : GC[ci]? = some (C, T, N)) (ha : 0 ≤ a) (hk : kdw w a = ci + 1)
    (hM : Call E M d' mc ms (vR a :: As) w Q) (hn : As.length = n) (hst : st0 = As.reverse ++ vR a :: st) (hs : st.length ≤ 4) (hd : d' + 1 ≤ d) (hm : mc ≤ bc ∧ ms ≤ bs)
    (hp : pc + 3 = pc') (kk : ∀ v w', Q 0 v w' → GG X (bc - mc) (bs - ms) w' pc' lv (v.toList ++ st)) (kx : ∀ k w', k ≠ 0 → Q k none w' → GX X (bc - mc) (bs - ms) w' pc lv (xn k)) : GG X bc bs w pc lv st0 := by
  subst hp; subst hst
  intro H locs ls cells slots hR b c e f
  have hOk := h
  obtain ⟨hx, hb, hml, hown, hts, hKn, hSt, hRm, hTr, hlE, hbs, hlk, hE⟩ := h
  subst hE
  have hsum := cats_le st
  unfold Call at hM
  rw [vR_pos ha] at hM ⊢
  rw [← hlE] at hM
  refine call_done b c e f hm (vx_runV (As := As) (rest := st) ⟨hx, hb, hml, hown, hts⟩ hM (cwV n hts hl.1 rfl rfl rfl hl.2.1 ⟨?_, ?_⟩) ⟨wIn_blind, ob_at hKn hR ha hk hc, fun U hU hW => in_at hOk hR b hU hW⟩ rfl hn (c.1.trans hml) rfl (lv_room (by omega)) dg (by omega)) kk kx
  · show d' + 1 ≤ _
    omega
  · have := hl.2.2
    show 8 + (M.2.2.1 + 11) + 64 * d' ≤ _
    omega
theorem g_callS {idx n : Nat} {M : Mth} {d' mc ms : Nat} {As st0 : List Value} (h : Ok X E own cc nL d) (dg : decode cc pc = .ok (.invokestatic idx, 3)) (hl : LinkS own idx M n)
    (hM : Call E M d' mc ms As w Q) (hn : As.length = n) (hst : st0 = As.reverse ++ st) (hs : st.length ≤ 4) (hd : d' + 1 ≤ d) (hm : mc ≤ bc ∧ ms ≤ bs)
    (hp : pc + 3 = pc') (kk : ∀ v w', Q 0 v w' → GG X (bc - mc) (bs - ms) w' pc' lv (v.toList ++ st)) (kx : ∀ k w', k ≠ 0 → Q k none w' → GX X (bc - mc) (bs - ms) w' pc lv (xn k)) : GG X bc bs w pc lv st0 := by
  subst hp; subst hst
  intro H locs ls cells slots hR b c e f
  have hOk := h
  obtain ⟨hx, hb, hml, hown, hts, hKn, hSt, hRm, hTr, hlE, hbs, hlk, hE⟩ := h
  subst hE
  have hsum := cats_le st
  unfold Call at hM
  rw [← hlE] at hM
  refine call_done b c e f hm (vx_runS (As := As) (rest := st) ⟨hx, hb, hml, hown, hts⟩ hM (va_cwS n hts hl.1 rfl rfl rfl hl.2.1 ⟨?_, ?_⟩) ⟨wIn_blind, fun U hU hW => in_at hOk hR b hU hW⟩ rfl hn (c.1.trans hml) rfl (lv_room (by omega)) dg (by omega)) kk kx
  · show d' + 1 ≤ _
    omega
  · have := hl.2.2
    show 8 + (M.2.2.1 + 11) + 64 * d' ≤ _
    omega
theorem g_callI {idx n : Nat} {M : Mth} {d' mc ms : Nat} {a : Int} {As st0 : List Value} (h : Ok X E own cc nL d) (dg : decode cc pc = .ok (.invokespecial idx, 3)) (hl : LinkI own idx M n) (ha : 0 ≤ a)
    (hM : Call E M d' mc ms (vR a :: As) w Q) (hn : As.length = n) (hst : st0 = As.reverse ++ vR a :: st) (hs : st.length ≤ 4) (hd : d' + 1 ≤ d) (hm : mc ≤ bc ∧ ms ≤ bs)
    (hp : pc + 3 = pc') (kk : ∀ v w', Q 0 v w' → GG X (bc - mc) (bs - ms) w' pc' lv (v.toList ++ st)) (kx : ∀ k w', k ≠ 0 → Q k none w' → GX X (bc - mc) (bs - ms) w' pc lv (xn k)) : GG X bc bs w pc lv st0 := by
  subst hp; subst hst
  intro H locs ls cells slots hR b c e f
  have hOk := h
  obtain ⟨hx, hb, hml, hown, hts, hKn, hSt, hRm, hTr, hlE, hbs, hlk, hE⟩ := h
  subst hE
  have hsum := cats_le st
  obtain ⟨⟨g1, g2, g3, g4, g5, g6⟩, g7, g8⟩ := hl
  unfold Call at hM
  rw [vR_pos ha, ← hlE, g2] at hM
  rw [vR_pos ha]
  refine call_done b c e f hm (vx_runI (As := As) (rest := st) ⟨hx, hb, hml, hown, hts⟩ hM (cwI n hts g1 rfl rfl rfl (hts _ g3) (hts _ g4) (hts _ g5) g6 g7 ⟨?_, ?_⟩) ⟨wIn_blind, fun U hU hW => in_at hOk hR b hU hW⟩ rfl hn (c.1.trans hml) rfl (lv_room (by omega)) dg (by omega)) kk kx
  · show d' + 1 ≤ _
    omega
  · show 8 + (M.2.2.1 + 11) + 64 * d' ≤ _
    omega
end RW2
