/-! THROWS, CATCHES, NATIVES, CALLS BY KIND -/
set_option maxRecDepth 100000
def nmC : List String := ["java/lang/RuntimeException", "java/lang/Exception"]
/-- what a throw of the k-th exception out of ChoreAssignment asks of the tables -/
def LinkT (own : String) (ik ic k : Nat) : Prop :=
  Jvm.Cond.classLink own ik (xn k) ∈ lw_all ∧ Jvm.Cond.initialized (xn k) ∈ lw_all ∧ Bundle.fit (xn k) = true ∧
  (vx_at0 own ic (xn k) nmC).filter (fun w => !goodWord w) = [.declares ⟨"java/lang/RuntimeException", "<init>", "()V"⟩, .declares ⟨"java/lang/Exception", "<init>", "()V"⟩, .declares ⟨"java/lang/Throwable", "<init>", "()V"⟩, .castable (xn k) (xn k)] ∧
  ((vx_at0 own ic (xn k) nmC).filter goodWord).all (fun w => decide (w ∈ lw_tbl)) = true ∧
  (Jvm.Cond.classLink own ik (xn k) :: Jvm.Cond.initialized (xn k) :: vx_at0 own ic (xn k) nmC).all (fun w => vx_ot w) = true
theorem nmC_ok : ∀ n ∈ nmC, Bundle.fit n = true := by decide +kernel
section RW3
variable {X : Cx} {E : Ev} {own : String} {cc : ByteArray} {nL d bc bs : Nat} {w : Wd} {pc pc' : Nat} {lv : List (Nat × Int)} {st : List Value} {Q : Nat → Option Value → Wd → Prop}
theorem g_throw0 {ik ic k : Nat} {rt : Option FieldType} (h : Ok X E own cc nL d) (hF : Fz X Q rt) (hk : 1 ≤ k) (hl : LinkT own ik ic k) (d0 : decode cc pc = .ok (.new ik, 3)) (d3 : decode cc (pc + 3) = .ok (.dup, 1)) (d4 : decode cc (pc + 4) = .ok (.invokespecial ic, 3)) (d7 : decode cc (pc + 7) = .ok (.athrow, 1)) (hd : 7 ≤ d) (hc1 : 1 ≤ bc) (hc2 : 6 ≤ bs) (hs : st.length ≤ 4)
    (hQ : ∀ n : Int, szw w ≤ n → Q k none (szU w n)) : GG X bc bs w pc lv st := by
  intro H locs ls cells slots hR b c e f
  obtain ⟨hx, hb, hml, hown, hts, hKn, hSt, hRm, hTr, hlE, hbs, hlk, hE⟩ := h
  obtain ⟨l1, l2, l3, l4, l5, l6⟩ := hl
  rw [hF.1]
  have hsum := cats_le st
  have hat : ∀ w ∈ vx_at0 own ic (xn k) nmC, w.before (cA X) (cS X) = true := by
    refine vx_hat (B := [.declares ⟨"java/lang/RuntimeException", "<init>", "()V"⟩, .declares ⟨"java/lang/Exception", "<init>", "()V"⟩, .declares ⟨"java/lang/Throwable", "<init>", "()V"⟩, .castable (xn k) (xn k)]) (fun w hw => ?_) (fun w hw => by rw [← l4]; exact hw) ?_
    · have h1 := of_decide_eq_true (List.all_eq_true.mp l5 w hw)
      exact hts w (List.mem_filter.mpr ⟨h1, (List.mem_filter.mp hw).2⟩)
    · have hD := hKn.2.2.2.2.2.2.2.2.1
      exact vx_c (va_Nw.use rfl (hD _ (List.mem_cons_self))) (vx_c (va_Nw.use rfl (hD _ (List.mem_cons_of_mem _ List.mem_cons_self))) (vx_c (va_Nw.use rfl (hD _ (List.mem_cons_of_mem _ (List.mem_cons_of_mem _ List.mem_cons_self)))) (vx_c (va_Nw.use rfl (hKn.2.2.2.2.2.2.2.2.2.1 k)) vx_n)))
  refine vx_throw0 (A := bA (cV X)) (names := nmC) (cls := xn k) hx hb hTr hown l3 nmC_ok (hts _ l1) (hts _ l2) hat (fun w hw => List.all_eq_true.mp l6 w hw) hSt.2.2.2.1 hSt.2.2.2.2 b c.1 d0 d3 d4 d7 (fun x hx => absurd (hF.2.2 x hx) id) ?_ ?_ (by omega) (by omega) hlk (fun t hal hz hsame => ?_) b.2.2 (by omega) (by omega)
  · show 2 + 3 < _
    omega
  · show _ + (13 * (2 + 1) + 42) ≤ _
    omega
  · refine ⟨⟨k, szU w t.heap.size, by omega, hQ _ (by rw [← hR.1]; omega), rfl, wRep_szU hR hsame⟩, Nat.le_trans b.1 hz, fun q h1 h2 => ?_⟩
    rw [hsame q (Nat.lt_of_lt_of_le h1 b.1)]
    exact b.2.1 q h1 h2
theorem g_out {k : Nat} {rt : Option FieldType} (h : Ok X E own cc nL d) (hF : Fz X Q rt) (hk : k ≠ 0) (hQ : Q k none w) : GX X bc bs w pc lv (xn k) := by
  intro H locs ls cells slots rest q ce hR b c e f h1 h2 h3
  obtain ⟨hx, hb, hml, hown, hts, hKn, hSt, hRm, hTr, hlE, hbs, hlk, hE⟩ := h
  rw [hF.1]
  exact vx_out (fun x hx => absurd (hF.2.2 x hx) id) hlk h1 h2 h3 (fun t ht hal => ⟨⟨k, w, hk, hQ, rfl, by rw [ht]; exact hR⟩, b.F ht⟩) b.2.2 (by omega) (by omega)
theorem g_objInit {idx : Nat} {a : Int} (h : Ok X E own cc nL d) (dg : decode cc pc = .ok (.invokespecial idx, 3)) (hq : Jvm.Cond.methodLink own idx Lib.objectInit ∈ lw_all) (q1 : Jvm.Cond.instanceMethod Lib.objectInit ∈ lw_all) (q2 : Jvm.Cond.code Lib.objectInit ⟨#[0xb1]⟩ 1 none ∈ lw_all) (ha : 0 ≤ a) (hd : 1 ≤ d) (hs : st.length ≤ 4) (hp : pc + 3 = pc') (K : GG X bc bs w pc' lv st) : GG X bc bs w pc lv (vR a :: st) := by
  subst hp
  intro H locs ls cells slots hR b c e f
  obtain ⟨hx, hb, hml, hown, hts, hKn, hSt, hRm, hTr, hlE, hbs, hlk, hE⟩ := h
  have hsum := cats_le st
  rw [vR_pos ha]
  refine W.objInit hx hb hown (hts _ hq) (hts _ q1) (hts _ q2) rfl c.1 rfl dg (by omega) ?_ (K H locs ls cells slots hR b c e f)
  show 2 * 0 + _ + 12 ≤ _
  omega
theorem g_getC {idx : Nat} {a : Int} (h : Ok X E own cc nL d) (dg : decode cc pc = .ok (.invokevirtual idx, 3)) (hq : Jvm.Cond.methodLink own idx ⟨"java/lang/Object", "getClass", "()Ljava/lang/Class;"⟩ ∈ lw_all) (q1 : Jvm.Cond.selects "[Ljava/lang/Object;" ⟨"java/lang/Object", "getClass", "()Ljava/lang/Class;"⟩ ⟨"java/lang/Object", "getClass", "()Ljava/lang/Class;"⟩ ∈ lw_all) (q2 : Jvm.Cond.instanceMethod ⟨"java/lang/Object", "getClass", "()Ljava/lang/Class;"⟩ ∈ lw_all) (q3 : Jvm.Cond.native ⟨"java/lang/Object", "getClass", "()Ljava/lang/Class;"⟩ ∈ lw_all) (ha : 0 ≤ a) (hk : 55 ≤ kdw w a) (hd : 1 ≤ d) (hs : st.length ≤ 4) (hp : pc + 3 = pc') (K : GG X bc bs w pc' lv (vR (eM E : Int) :: st)) : GG X bc bs w pc lv (vR a :: st) := by
  subst hp
  intro H locs ls cells slots hR b c e f
  obtain ⟨hx, hb, hml, hown, hts, hKn, hSt, hRm, hTr, hlE, hbs, hlk, hE⟩ := h
  subst hE
  have hsum := cats_le st
  have hm := hKn.2.2.1.2
  have K1 := K H locs ls cells slots hR b c e f
  rw [vR_nat] at K1
  rw [vR_pos ha]
  have h1 := wRep_arr hR ha (by omega)
  have hak : ak (kdw w a) = 5 := by unfold ak; rw [if_neg (by omega), if_pos hk]
  refine va_getC hx hb c.1.symm hown (hts _ hq) (va_Dc.use hKn.2.2.1.1.1) (hts _ q1) (hts _ q2) (hts _ q3) hm ⟨_, h1, rfl, ?_⟩ (by omega) (by omega) dg K1
  rw [hak]
  obtain ⟨kA, comp, k1, k2, k3, k4⟩ := (hKn.2.1 5 (by omega)).2
  exact k4
theorem g_ldcM {idx : Nat} (h : Ok X E own cc nL d) (dg : decode cc pc = .ok (.ldc idx, 2)) (hq : Jvm.Cond.classLink own idx "[Ljava/lang/Object;" ∈ lw_all) (hp : pc + 2 = pc') (K : GG X bc bs w pc' lv (vR (eM E : Int) :: st)) : GG X bc bs w pc lv st := by
  subst hp
  intro H locs ls cells slots hR b c e f
  obtain ⟨hx, hb, hml, hown, hts, hKn, hSt, hRm, hTr, hlE, hbs, hlk, hE⟩ := h
  subst hE
  have hm := hKn.2.2.1.2
  have K1 := K H locs ls cells slots hR b c e f
  rw [vR_nat] at K1
  exact va_ldcM hx hb hown (hts _ hq) hm dg K1
/-- a stretch of references copied: what stands in the target's places -/
def cpw (w : Wd) (s dst sp dp n : Int) : Wd := (fun b j => if b = dst ∧ dp ≤ j ∧ j < dp + n then rdw w s (sp + (j - dp)) else w.1 b j, w.2)
theorem rd_cp {s dst sp dp n b j : Int} : rdw (cpw w s dst sp dp n) b j = if b = dst ∧ dp ≤ j ∧ j < dp + n then rdw w s (sp + (j - dp)) else rdw w b j := rfl
theorem kd_cp {s dst sp dp n b : Int} : kdw (cpw w s dst sp dp n) b = kdw w b := rfl
theorem ln_cp {s dst sp dp n b : Int} : lnw (cpw w s dst sp dp n) b = lnw w b := rfl
theorem sz_cp {s dst sp dp n : Int} : szw (cpw w s dst sp dp n) = szw w := rfl
theorem wRep_cp {H H1 : Heap} {s dst sp dp n : Int} (h : wRep E w H) (h0 : 0 ≤ dst) (hz : H1.size = H.size) (ho : ∀ q : Nat, q ≠ dst.toNat → H1[q]? = H[q]?)
    (hc : wAt E (kdw w dst) (lnw w dst) (fun j => if dp ≤ j ∧ j < dp + n then rdw w s (sp + (j - dp)) else rdw w dst j) dst.toNat H1) : wRep E (cpw w s dst sp dp n) H1 := by
  refine ⟨by rw [hz]; exact h.1, fun q hq => ?_⟩
  have ha : ((dst.toNat : Nat) : Int) = dst := Int.toNat_of_nonneg h0
  by_cases e : (q : Int) = dst
  · have e2 : q = dst.toNat := by omega
    subst e2
    rw [ha]
    have : rdw (cpw w s dst sp dp n) dst = fun j => if dp ≤ j ∧ j < dp + n then rdw w s (sp + (j - dp)) else rdw w dst j := by
      funext j
      rw [rd_cp]
      by_cases hj : dp ≤ j ∧ j < dp + n
      · rw [if_pos ⟨rfl, hj⟩, if_pos hj]
      · rw [if_neg (fun z => hj z.2), if_neg hj]
    rw [kd_cp, ln_cp, this]
    exact hc
  · have e2 : q ≠ dst.toNat := by omega
    have : rdw (cpw w s dst sp dp n) q = rdw w q := by
      funext j
      rw [rd_cp, if_neg (fun z => e z.1)]
    rw [kd_cp, ln_cp, this]
    exact wAt_kept (h.2 q hq) (ho q e2)
theorem g_arrcopy {idx : Nat} {s dst sp dp n : Int} (h : Ok X E own cc nL d) (dg : decode cc pc = .ok (.invokestatic idx, 3)) (hq : Jvm.Cond.methodLink own idx arraycopyName ∈ lw_all) (q1 : Jvm.Cond.native arraycopyName ∈ lw_all) (q2 : Jvm.Cond.static arraycopyName ∈ lw_all) (q3 : Jvm.Cond.initialized "java/lang/System" ∈ lw_all)
    (hs0 : 0 ≤ s) (hd0 : (eB E : Int) ≤ dst) (hks : 55 ≤ kdw w s) (hkd : 55 ≤ kdw w dst) (h1 : 0 ≤ sp) (h2 : 0 ≤ dp) (h3 : 0 ≤ n) (h4 : sp + n ≤ lnw w s) (h5 : dp + n ≤ lnw w dst) (h6 : lnw w s ≤ 2147483647 ∧ lnw w dst ≤ 2147483647) (hel : ∀ j : Int, sp ≤ j → j < sp + n → okr w (rdw w s j))
    (hd : 2 ≤ d) (hst : st.length ≤ 4) (hp : pc + 3 = pc') (K : GG X bc bs (cpw w s dst sp dp n) pc' lv st) : GG X bc bs w pc lv (vI n :: vI dp :: vR dst :: vI sp :: vR s :: st) := by
  subst hp
  intro H locs ls cells slots hR b c e f
  obtain ⟨hx, hb, hml, hown, hts, hKn, hSt, hRm, hTr, hlE, hbs, hlk, hE⟩ := h
  subst hE
  have hsum := cats_le st
  have hd1 : 0 ≤ dst := by omega
  have haks : ak (kdw w s) = 5 := by unfold ak; rw [if_neg (by omega), if_pos hks]
  have hakd : ak (kdw w dst) = 5 := by unfold ak; rw [if_neg (by omega), if_pos hkd]
  have hats : aT (kdw w s) = .object "java/lang/Object" := by unfold aT; rw [haks]; rfl
  have hatd : aT (kdw w dst) = .object "java/lang/Object" := by unfold aT; rw [hakd]; rfl
  have hc0 := wRep_arr hR hs0 (by omega)
  have hc1 := wRep_arr hR hd1 (by omega)
  rw [haks, hats] at hc0
  rw [hakd, hatd] at hc1
  obtain ⟨i1, i2⟩ := idx_of (i := sp) (by omega)
  obtain ⟨j1, j2⟩ := idx_of (i := dp) (by omega)
  obtain ⟨k1, k2⟩ := idx_of (i := n) (by omega)
  have t1 := i32_toInt (x := sp) (by omega)
  have t2 := i32_toInt (x := dp) (by omega)
  have t3 := i32_toInt (x := n) (by omega)
  rw [vR_pos hs0, vR_pos hd1]
  intro T hT XS
  obtain ⟨-, kA0, hk0, cm0, hkk0⟩ := (hKn.2.1 5 (by omega)).1 (lnw w s).toNat (fun j => tv (.object "java/lang/Object") (rdw w s j))
  obtain ⟨vm', X', step⟩ := XS.arraycopy hx hown (hts _ hq) (hts _ q1) (hts _ q2) (hts _ q3) (src := s.toNat) (dst := dst.toNat) (cs := (arrV (eA (cV X) 5) (lnw w s).toNat (fun j => tv (.object "java/lang/Object") (rdw w s j)))) (cd := (arrV (eA (cV X) 5) (lnw w dst).toNat (fun j => tv (.object "java/lang/Object") (rdw w dst j)))) (srcPos := Int32.ofInt sp) (destPos := Int32.ofInt dp) (n := Int32.ofInt n) (by rw [hT]; exact hc0) (by rw [hT]; exact hc1)
    (fun _ h => by cases h) (fun _ h => by cases h) (fun h => by cases h) (fun h => by cases h) hk0 hk0 hkk0 hkk0 rfl i2 j2 k2
    (by rw [t1, t3, arrV_size]; omega) (by rw [t2, t3, arrV_size]; omega)
    (fun vm₁ hal i hi => by
      rw [k1] at hi
      have e9 : (arrV (eA (cV X) 5) (lnw w s).toNat (fun j => tv (.object "java/lang/Object") (rdw w s j))).slots.getD ((Int32.ofInt sp).toNatClampNeg + i) .null = vR (rdw w s (sp + i)) := by
        rw [i1, Array.getD_eq_getD_getElem?, arrV_read _ _ (by omega)]
        show vR (rdw w s ((sp.toNat + i : Nat) : Int)) = _
        rw [show ((sp.toNat + i : Nat) : Int) = sp + i by omega]
      rw [e9]
      by_cases hy : rdw w s (sp + i) < 0
      · rw [vR_neg hy]; exact ⟨rfl, trivial⟩
      · obtain ⟨cellV, g1, g2, ⟨kC, hkC⟩, hasg⟩ := okr_any hKn hR (by omega) (hel (sp + i) (by omega) (by omega))
        obtain ⟨kA, comp, r1, r2, r3, -⟩ := (hKn.2.1 5 (by omega)).2
        cases hk0.symm.trans r1
        cases hkk0.symm.trans r2
        obtain ⟨kE, hkE, -⟩ := Vm.findClass_spec r3
        obtain ⟨kC', hkC', -⟩ := hal.2.2 _ _ hkC
        obtain ⟨kE', hkE', -⟩ := hal.2.2 _ _ hkE
        rw [vR_pos (by omega)]
        refine ⟨rfl, cellV, (show T.heap[_]? = some cellV by rw [hT]; exact g1), (fun q h => by rw [h] at g2; cases g2), ⟨kC', hkC'⟩, ⟨kE', hkE'⟩, ?_⟩
        show vm₁.assignable _ _ = true
        rw [hal.assignable]
        exact hasg _ r3)
    (g := F0 (cM X) pc ls (vI n :: vI dp :: .ref dst.toNat :: vI sp :: .ref s.toNat :: st)) rfl c.1 (rest := st) rfl (by rw [hb]; exact dg) (by omega) (by
      have hw : nativeFrameWords "java/lang/System" "arraycopy" 5 ≤ 40 := by decide
      show 2 * 0 + _ + _ ≤ _
      omega)
  have e1 : copied (arrV (eA (cV X) 5) (lnw w s).toNat (fun j => tv (.object "java/lang/Object") (rdw w s j))) (arrV (eA (cV X) 5) (lnw w dst).toNat (fun j => tv (.object "java/lang/Object") (rdw w dst j))) (Int32.ofInt sp) (Int32.ofInt dp) (Int32.ofInt n) = arrV (eA (cV X) 5) (lnw w dst).toNat (fun j => tv (.object "java/lang/Object") (va_cpy (fun j : Nat => rdw w s j) (fun j : Nat => rdw w dst j) (Int32.ofInt sp).toNatClampNeg (Int32.ofInt dp).toNatClampNeg (Int32.ofInt n).toNatClampNeg j)) :=
    va_copied (fun x => tv (.object "java/lang/Object") x) (eA (cV X) 5) (eA (cV X) 5) (fun j : Nat => rdw w s j) (fun j : Nat => rdw w dst j) (by rw [i1, k1]; omega)
  rw [e1] at X' step
  have hl : dst.toNat < H.size := (Array.getElem?_eq_some_iff.mp hc1).1
  generalize hce : arrV (eA (cV X) 5) (lnw w dst).toNat (fun j => tv (.object "java/lang/Object") (va_cpy (fun j : Nat => rdw w s j) (fun j : Nat => rdw w dst j) (Int32.ofInt sp).toNatClampNeg (Int32.ofInt dp).toNatClampNeg (Int32.ofInt n).toNatClampNeg j)) = ce at X' step
  have hheap : ((T.setVm vm').setCell dst.toNat ce).heap = H.setIfInBounds dst.toNat ce := by rw [← hT]; rfl
  have oq : ∀ q : Nat, q ≠ dst.toNat → (H.setIfInBounds dst.toNat ce)[q]? = H[q]? := fun q hq => by simp [Array.getElem?_setIfInBounds, Ne.symm hq]
  have zq : (H.setIfInBounds dst.toNat ce).size = H.size := by simp
  have hbd : bA (cV X) dst.toNat := by show eB (cV X) ≤ _; omega
  have hW2 : wRep (cV X) (cpw w s dst sp dp n) (H.setIfInBounds dst.toNat ce) := by
    refine wRep_cp hR hd1 zq oq ?_
    unfold wAt
    rw [if_neg (by omega)]
    have : (H.setIfInBounds dst.toNat ce)[dst.toNat]? = some ce := by simp [Array.getElem?_setIfInBounds, hl]
    rw [this, ← hce, hakd, hatd]
    congr 2
    funext j
    show vR _ = vR _
    congr 1
    unfold va_cpy
    rw [i1, j1, k1]
    by_cases hj : dp.toNat ≤ j ∧ j < dp.toNat + n.toNat
    · have hj2 : dp ≤ (j : Int) ∧ (j : Int) < dp + n := by omega
      rw [if_pos hj]
      show rdw w s ((sp.toNat + (j - dp.toNat) : Nat) : Int) = (if dp ≤ (j : Int) ∧ (j : Int) < dp + n then rdw w s (sp + ((j : Int) - dp)) else rdw w dst j)
      rw [if_pos hj2]
      congr 1
      omega
    · have hj2 : ¬ (dp ≤ (j : Int) ∧ (j : Int) < dp + n) := by omega
      rw [if_neg hj]
      show rdw w dst (j : Int) = (if dp ≤ (j : Int) ∧ (j : Int) < dp + n then rdw w s (sp + ((j : Int) - dp)) else rdw w dst j)
      rw [if_neg hj2]
  obtain ⟨t, a1, b1⟩ := K _ _ ls cells slots hW2 ⟨by rw [zq]; exact b.1, fun q g1 g2 => by
      rw [oq q (fun e => g2 (by rw [e]; exact hbd))]
      exact b.2.1 q g1 g2, fun q hq => by
      rcases List.mem_append.mp hq with h | h
      · exact b.2.2 q h
      · obtain ⟨z, -, hz⟩ := List.mem_map.mp h
        rw [← hz]
        exact hbd⟩ c e f _ hheap X'
  exact ⟨t, step t a1, b1⟩
end RW3
