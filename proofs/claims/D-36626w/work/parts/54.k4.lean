/-! THE COMPONENT: reading methods, writes into the table (by gen/spec_k4.py) -/
set_option maxRecDepth 100000
set_option maxHeartbeats 4000000
/-- the component in the middle of a change: tables and enumeration need not fit -/
def YY (E : Ev) (xo b n m : Int) (h : Int → Int → Int) (sn sm : Int) (sh : Int → Int → Int) (n0 : Int) (C0 : Int → Int → Int) (e : En) (w : Wd) : Prop :=
  XI E xo b w ∧ OW E w ∧ XT E xo n m h sn sm sh w ∧ XQ E b w ∧ XE E xo b n0 C0 e w
section K4S
variable {E : Ev} {w w0 u u' : Wd} {P : Int → Int → Prop} {T r c n m sn sm l i j k v z xo b it x n0 : Int} {h h' sh C0 : Int → Int → Int} {f : Int → Int} {e : En}
theorem XX.yy (H : XX E xo b n m h sn sm sh e w) : YY E xo b n m h sn sm sh n (tC m h) e w := H
theorem GX.tr (hG : Gr (fun a _ => ZX xo b w a) w u) (hG2 : Gr (fun a _ => ZX xo b u a) u u') : Gr (fun a _ => ZX xo b w a) w u' := hG.trN hG2 (fun a i hk z => by
  unfold ZX at z ⊢
  rw [hG.kd hk] at z; exact z)
theorem GX.nop (hG : Gr (fun a _ => ZX xo b w a) w u) (hG2 : Gr NoP u u') : Gr (fun a _ => ZX xo b w a) w u' := hG.trN hG2 (fun _ _ _ z => z.elim)
theorem NoP.gx (hG : Gr NoP w u) : Gr (fun a _ => ZX xo b w a) w u := hG.wk (fun _ _ z => z.elim)
theorem YY.gr (H : YY E xo b n m h sn sm sh n0 C0 e w) (hG : Gr P w u) (h1 : ∀ a i, P a i → (eB E : Int) ≤ a ∧ a ≠ xo ∧ (a < b ∨ b + 31 < a) ∧ (kdw w a = 2 ∨ kdw w a = 8 ∨ (50 ≤ kdw w a ∧ kdw w a ≤ 53))) : YY E xo b n m h sn sm sh n0 C0 e u := by
  obtain ⟨hX, hO, hT, hQ, hE⟩ := H
  have nk : ∀ a i (c : Nat), kdw w a = c → (c ≠ 2 ∧ c ≠ 8 ∧ (c < 50 ∨ 53 < c)) → ¬ P a i := fun a i c hc hn z => by have := (h1 a i z).2.2.2; omega
  refine ⟨hX.gr hG (fun i z => absurd rfl (h1 _ _ z).2.1) (fun i z => by have := (h1 _ _ z).2.2.1; omega) (fun i z => by have := (h1 _ _ z).2.2.1; omega), hO.gr hG (fun a i z => (h1 a i z).1), hT.gr hX hO hG (fun a i z => ⟨(h1 a i z).1, Or.inr (by have := (h1 a i z).2.2.2; omega)⟩) (fun i z => absurd rfl (h1 _ _ z).2.1),
    hQ.gr hG (fun i z => by have := (h1 _ _ z).2.2.1; omega) (fun a i hk => nk a i _ hk (by unfold qk; omega)) (fun a i hk => nk a i _ hk (by omega)), hE.gr hX hG (fun i _ _ z => absurd rfl (h1 _ _ z).2.1) (fun i z => by have := (h1 _ _ z).2.2.1; omega) (fun a i hk => nk a i _ hk (by unfold pk; omega)) (fun a i hk => nk a i _ hk (by omega)) (fun k i k0 k1 z => by have := (h1 _ _ z).2.2.1; omega)⟩
theorem YY.nop (H : YY E xo b n m h sn sm sh n0 C0 e w) (hG : Gr NoP w u) : YY E xo b n m h sn sm sh n0 C0 e u := H.gr hG (fun _ _ z => z.elim)
/-- writes into what lists own: everything but the tables stays -/
theorem YY.lists (hX : XI E xo b w) (hO : OW E w) (hQ : XQ E b w) (hE : XE E xo b n0 C0 e w) (hG : Gr P w u) (h1 : ∀ a i, P a i → (eB E : Int) ≤ a ∧ ∃ l q, AL E w l q ∧ (a = l ∨ a = rdw w l 1)) : XI E xo b u ∧ OW E u ∧ XQ E b u ∧ XE E xo b n0 C0 e u ∧ ∀ i, rdw u xo i = rdw w xo i := by
  have hz : ∀ a i, P a i → ¬ ZS xo b w a ∧ (kdw w a = 7 ∨ 60 ≤ kdw w a) := fun a i z => by
    obtain ⟨h2, l, q, hl, e2⟩ := h1 a i z
    have h3 := hX.zs hO hl
    rcases e2 with e2 | e2
    · rw [e2]; exact ⟨h3.1, Or.inl hl.1.2.1⟩
    · rw [e2] at h2 ⊢
      refine ⟨h3.2 h2, Or.inr ?_⟩
      rcases hl.2 with y | y
      · have h5 := y.1
        have h6 := hO.1.1.1
        omega
      · have := y.2.1; omega
  have nx : ∀ i, ¬ P xo i := fun i z => (hz _ _ z).1 (Or.inl rfl)
  have nb : ∀ k : Int, 0 ≤ k → k ≤ 31 → ∀ i, ¬ P (b + k) i := fun k k0 k1 i z => (hz _ _ z).1 (Or.inr (Or.inl (by omega)))
  have hx : kdw w xo ≠ 0 := by rw [hX.hk]; decide
  refine ⟨hX.gr hG (fun i z => absurd z (nx i)) (fun i => by have := nb 0 (by omega) (by omega) i; rwa [Int.add_zero] at this) (fun i => nb 24 (by omega) (by omega) i), hO.gr hG (fun a i z => (h1 a i z).1), hQ.gr hG (fun i => nb 15 (by omega) (by omega) i) (fun a i hk z => (hz _ _ z).1 (Or.inr (Or.inr (Or.inl hk)))) (fun a i hk z => by have := (hz _ _ z).2; omega),
    hE.gr hX hG (fun i _ _ => nx i) (fun i => nb 21 (by omega) (by omega) i) (fun a i hk z => (hz _ _ z).1 (Or.inr (Or.inr (Or.inr hk)))) (fun a i hk z => by have := (hz _ _ z).2; omega) (fun k i k0 k1 => nb k (by omega) k1 i), fun i => hG.rd hx (nx i)⟩
/-- a number is written -/
theorem TB.set (H : TB E w T r c h) (hO : OW E w) (hi : 0 ≤ i ∧ i < r) (hj : 0 ≤ j ∧ j < c) (hv : bx w v x ∧ v < eB E) : TB E (upw w (rdw w (el w T i) 1) j v) T r c (fun a q => if a = i ∧ q = j then x else h a q) ∧ (∀ k : Int, 0 ≤ k → k < r → el (upw w (rdw w (el w T i) 1) j v) T k = el w T k) := by
  have hR := H.2.1 i hi.1 hi.2
  have hra := hR.1.arr (by omega)
  have hTa := H.1.arr (by omega)
  have hT0 := H.1.h0
  have hR0 := hR.1.h0
  have n1 : ∀ y q, AL E w y q → y ≠ rdw w (el w T i) 1 := fun y q hy => kd_ne hy.1.2.1 hra.2.1 (by omega)
  have n2 : rdw w T 1 ≠ rdw w (el w T i) 1 := fun z => by
    have h1 := hTa.2.1
    rw [z, hra.2.1] at h1
    exact hR.2 (by omega)
  have hG : Gr (fun a k => a = rdw w (el w T i) 1 ∧ k = j) w (upw w (rdw w (el w T i) 1) j v) := Gr.rf.up ⟨rfl, rfl⟩
  have eT : ∀ k : Int, 0 ≤ k → k < r → el (upw w (rdw w (el w T i) 1) j v) T k = el w T k := fun k k0 k1 => H.1.els hG (fun z => n1 _ _ H.1 z.1) ⟨k0, k1⟩ (fun z => n2 z.1)
  have aT := H.1.gr hG (fun z => n1 _ _ H.1 z.1) (fun z => n1 _ _ H.1 z.1) hO
  have hbx : ∀ o q, bx w o q → bx (upw w (rdw w (el w T i) 1) j v) o q := fun o q hb => hb.gr hG (fun z => by
    have h1 := hb.2.1
    rw [z.1, hra.2.1] at h1; omega)
  refine ⟨⟨aT.1, fun k k0 k1 => ?_, fun k q k0 k1 q0 q1 => ?_, fun k q k0 k1 q0 q1 e => ?_⟩, eT⟩
  · have hk := H.2.1 k k0 k1
    rw [eT k k0 k1]
    exact ⟨(hk.1.gr hG (fun z => n1 _ _ hk.1 z.1) (fun z => n1 _ _ hk.1 z.1) hO).1, hk.2⟩
  · have hk := H.2.1 k k0 k1
    have h3 := H.2.2.1 k q k0 k1 q0 q1
    rw [eT k k0 k1]
    show bx (upw w (rdw w (el w T i) 1) j v) (el (upw w (rdw w (el w T i) 1) j v) (el w T k) q) (if k = i ∧ q = j then x else h k q) ∧ _
    by_cases hkq : k = i ∧ q = j
    · rw [if_pos hkq]
      have e1 : el (upw w (rdw w (el w T i) 1) j v) (el w T k) q = v := by
        rw [hkq.1, hkq.2]
        show rdw (upw w (rdw w (el w T i) 1) j v) (rdw (upw w (rdw w (el w T i) 1) j v) (el w T i) 1) j = v
        rw [rd_up_ne (a := rdw w (el w T i) 1) (b := el w T i) (fun z => n1 _ _ hR.1 z.1), rd_up_eq ⟨rfl, rfl⟩]
      rw [e1]
      exact ⟨hbx _ _ hv.1, hv.2⟩
    · rw [if_neg hkq, hk.1.els hG (fun z => n1 _ _ hk.1 z.1) ⟨q0, q1⟩ (fun z => ?_)]
      · exact ⟨hbx _ _ h3.1, h3.2⟩
      · have hka := hk.1.arr (by omega)
        have h4 := hka.2.1
        have hk0 := hk.1.h0
        rw [z.1, hra.2.1] at h4
        exact hkq ⟨H.2.2.2 k i k0 k1 hi.1 hi.2 (by omega), z.2⟩
  · rw [eT k k0 k1, eT q q0 q1] at e
    exact H.2.2.2 k q k0 k1 q0 q1 e
theorem YY.set (H : YY E xo b n m h sn sm sh n0 C0 e w) (hi : 0 ≤ i ∧ i < n) (hj : 0 ≤ j ∧ j < m) (hv : bx w v x ∧ v < eB E) (hx : -100 ≤ x ∧ x ≤ 99) : YY E xo b n m (fun a q => if a = i ∧ q = j then x else h a q) sn sm sh n0 C0 e (upw w (rdw w (el w (rdw w xo 2) i) 1) j v) ∧ Gr (fun a _ => ZX xo b w a) w (upw w (rdw w (el w (rdw w xo 2) i) 1) j v) ∧ rdw (upw w (rdw w (el w (rdw w xo 2) i) 1) j v) xo 2 = rdw w xo 2 ∧ (∀ k : Int, 0 ≤ k → k < n → el (upw w (rdw w (el w (rdw w xo 2) i) 1) j v) (rdw w xo 2) k = el w (rdw w xo 2) k) := by
  obtain ⟨hX, hO, ⟨⟨⟨f0, f1, f3, f4⟩, nb, sb⟩, ⟨t1, t2, t3⟩, hb1, hb2⟩, hQ, hE⟩ := H
  have hR := t1.2.1 i hi.1 hi.2
  have hra := hR.1.arr (by omega)
  have hG : Gr (fun a k => a = rdw w (el w (rdw w xo 2) i) 1 ∧ k = j) w (upw w (rdw w (el w (rdw w xo 2) i) 1) j v) := Gr.rf.up ⟨rfl, rfl⟩
  obtain ⟨hX', hO', hQ', hE', eF⟩ := YY.lists hX hO hQ hE hG (fun a k z => ⟨by rw [z.1]; exact hra.1, _, _, hR.1, Or.inr z.1⟩)
  have s := t1.set (v := v) hO hi hj hv
  have s2 := t2.gr hG hO (fun a k z => by rw [z.1]; exact hra.1) (fun l k hl => by
    obtain ⟨q, hq⟩ := t2.al hl
    have hR0 := hR.1.h0
    have hq0 := hq.h0
    refine ⟨fun z => kd_ne hq.1.2.1 hra.2.1 (by omega) z.1, fun z => ?_⟩
    rcases hq.2 with y | y
    · have h1 := y.1
      have h2 := hO.1.1.1
      omega
    · have h4 := y.2.1
      rw [z.1, hra.2.1] at h4
      exact t3 (el w (rdw w xo 2) i) (Or.inr ⟨i, hi.1, hi.2, rfl⟩) (by rw [show el w (rdw w xo 2) i = l by omega]; exact hl))
  refine ⟨⟨hX', hO', ⟨⟨⟨by rw [eF]; exact f0, by rw [eF]; exact f1, by rw [eF]; exact f3, by rw [eF]; exact f4⟩, nb, sb⟩, ⟨by rw [eF]; exact s.1, by rw [eF]; exact s2.1, fun l hl => ?_⟩, fun a q a0 a1 q0 q1 => ?_, hb2⟩, hQ', hE'⟩, hG.wk (fun a k z => Or.inr (Or.inr (by rw [z.1]; omega))), eF 2, s.2⟩
  · have e1 := (LSt.cg (eF 2) s.2).mp hl
    exact fun z => t3 l e1 ((LSt.cg (eF 5) (fun i i0 i1 => (s2.2.2 i i0 i1).1)).mp z)
  · show -100 ≤ (if a = i ∧ q = j then x else h a q) ∧ (if a = i ∧ q = j then x else h a q) ≤ 99
    split
    · exact hx
    · exact hb1 a q a0 a1 q0 q1
theorem YY.cg (H : YY E xo b n m h sn sm sh n0 C0 e w) (hh : ∀ i j : Int, 0 ≤ i → i < n → 0 ≤ j → j < m → h' i j = h i j) : YY E xo b n m h' sn sm sh n0 C0 e w := by
  obtain ⟨hX, hO, ⟨hf, ⟨t1, t2, t3⟩, hb1, hb2⟩, hQ, hE⟩ := H
  exact ⟨hX, hO, ⟨hf, ⟨t1.cg hh, t2, t3⟩, fun i j i0 i1 j0 j1 => by rw [hh i j i0 i1 j0 j1]; exact hb1 i j i0 i1 j0 j1, hb2⟩, hQ, hE⟩
theorem YY.can {w' : Wd} (H : YY E xo b n m h sn sm sh n0 C0 e w) (hG0 : Gr (fun a _ => ZX xo b w0 a) w0 w) (hG : Gr (ZC E xo b w) w w') (hE : ∀ (n2 : Int) (C2 : Int → Int → Int) (x : En), XE E xo b n2 C2 x.off w') : XX E xo b n m h sn sm sh e.off w' ∧ Gr (fun a _ => ZX xo b w0 a) w0 w' :=
  ⟨XX.can H.1 H.2.1 H.2.2.1 H.2.2.2.1 hG hE, GX.tr hG0 (hG.wk (fun a i z => z.zx H.1))⟩
/-- what a refusing operation of the component answers -/
def qC (KX R : Int) (new : Wd → Prop) (w : Wd) : Nat → Option Value → Wd → Prop := qIX (fun r w' => KX = 0 ∧ r = R ∧ new w') (fun k w' => (k : Int) = KX ∧ Gr NoP w w')
theorem c_k_columnSum (hH : XX E xo b n m h sn sm sh e w) (hc : 0 ≤ c ∧ c < m) : Call E mX1_columnSum 3 1 4 [vR xo, vI c] w (qI (fun z w' => z = clS n m h c ∧ Gr NoP w w')) := by
  refine call_of (av := [(1, xo), (0, c)]) (by decide +kernel) rfl (Nat.le_of_ble_eq_true rfl) ?_
  intro X hX hF hname
  show GG X 1 4 w 0 [(1, xo), (0, c), (9, 0), (9, 0), (9, 0)] []
  obtain ⟨hX0, hO, hT, hQ, hE⟩ := id hH
  obtain ⟨⟨⟨f0, f1, f3, f4⟩, nb, sb⟩, ⟨t1, t2, t3⟩, hb1, hb2⟩ := hT
  refine g_iconst (pc' := 1) hX dX1_columnSum_0 rfl ?_
  refine g_istore_n_2 (pc' := 2) hX dX1_columnSum_1 (by decide) rfl rfl ?_
  refine g_aload_n (pc' := 3) hX dX1_columnSum_2 rfl rfl ?_
  refine gf_X1_20 (pc' := 6) hX dX1_columnSum_3 hH.1.h0 hH.1.hk rfl ?_
  refine gV0A (pc' := 9) hX dX1_columnSum_6 ml_X1_104 gc_J2 t1.1.h0 t1.1.1.2.1 (c_j_iterator hO t1.1) (Nat.le_of_ble_eq_true rfl) (by decide) (by omega) rfl (fun r6 w6 q6 => ?_)
  obtain ⟨hI, hk, hG⟩ := q6
  refine g_astore_n_3 (pc' := 10) hX dX1_columnSum_9 (by decide) rfl rfl ?_
  have loop : ∀ (f : Nat) (i : Int) (u : Wd) (x4 : Nat × Int), 0 ≤ i → i ≤ n → IT E u r6 (rdw w xo 2) i → Gr NoP w u → n < i + f → GG X 0 0 u 10 [(1, xo), (0, c), (0, sm' i.toNat (fun k => tC m h k c)), (1, r6), x4] [] := by
    intro f
    induction f with
    | zero => intro i u x4 i0 i1 hI hG hf; exact absurd hf (by omega)
    | succ f ih =>
      intro i u x4 i0 i1 hI hG hf
      have hTu := (t1.nop hO hG).1
      refine g_aload_n (pc' := 11) hX dX1_columnSum_10 rfl rfl ?_
      refine gF0E0 (pc' := 16) hX dX1_columnSum_11 ml_X1_108_J19 gc_J19 (nn_b hI.1.1) hI.1.2 (c_j_hasNext hTu.1 (by omega) hI ⟨i0, i1⟩) (Nat.le_of_ble_eq_true rfl) (by decide) rfl ?_
      refine g_if_eq (pc' := 19) (tgt := 51) hX dX1_columnSum_16 (by decide) rfl (by omega) (fun h16 => ?_) (fun h16 => ?_)
      · skip
        refine g_iload_n (pc' := 52) hX dX1_columnSum_51 rfl rfl ?_
        exact g_retI hX hF dX1_columnSum_52 ⟨by rw [show i = n by omega]; rfl, hG⟩
      · skip
        refine g_aload_n (pc' := 20) hX dX1_columnSum_19 rfl rfl ?_
        refine gF0EA0 (pc' := 25) hX dX1_columnSum_20 ml_X1_114_J19 gc_J19 (nn_b hI.1.1) hI.1.2 (c_j_next hTu.1 hI (by omega)) (Nat.le_of_ble_eq_true rfl) (by decide) rfl ?_
        have hto := t1.out hG hO i0 (show i < n by omega)
        obtain ⟨hI2, hGi⟩ := hI.nx hTu.1.1.2.1
        have hG2 : Gr NoP w (upw (upw u r6 0 (i + 1)) r6 1 i) := hG.trN hGi (fun a i hk' z => hk' (by rw [z]; exact hk))
        rw [hto.1]
        have hto2 := t1.out hG2 hO i0 (show i < n by omega)
        have hRu := hto2.2.1
        obtain ⟨hbx0, hlt⟩ := t1.2.2.1 i c i0 (by omega) hc.1 hc.2
        have hbx := hbx0.gr hG2 id
        have hbb := hb1 i c i0 (by omega) hc.1 hc.2
        refine g_cast (pc' := 28) hX dX1_columnSum_25 gc_J2 q104 hRu.h0 hRu.1.2.1 rfl ?_
        refine g_astore_4 (pc' := 30) hX dX1_columnSum_28 (by decide) rfl rfl ?_
        refine g_iload_n (pc' := 31) hX dX1_columnSum_30 rfl rfl ?_
        refine g_aload (pc' := 33) hX dX1_columnSum_31 rfl rfl ?_
        refine g_iload_n (pc' := 34) hX dX1_columnSum_33 rfl rfl ?_
        refine gV1EA0 (pc' := 37) hX dX1_columnSum_34 ml_X1_131 gc_J2 hRu.h0 hRu.1.2.1 (c_j_get hRu hc) (Nat.le_of_ble_eq_true rfl) (by decide) rfl ?_
        rw [hto2.2.2 c hc.1 hc.2]
        refine g_cast (pc' := 40) hX dX1_columnSum_37 gc_J4 q475 hbx.1 hbx.2.1 rfl ?_
        refine gV0E0 (pc' := 43) hX dX1_columnSum_40 ml_X1_135 gc_J4 hbx.1 hbx.2.1 (c_j_intValue hbx) (Nat.le_of_ble_eq_true rfl) (by decide) rfl ?_
        refine gS1E0 (pc' := 46) hX dX1_columnSum_43 ml_X1_139 (c_k_costOf (by omega)) (Nat.le_of_ble_eq_true rfl) (by decide) rfl ?_
        refine g_iadd (pc' := 47) hX dX1_columnSum_46 rfl ?_
        rw [show (if h i c < 0 then (1000 : Int) else h i c) = tC m h i c from by unfold tC; rw [if_neg (show ¬ m ≤ c by omega)], ← sm_s (f := fun k => tC m h k c) i0]
        refine g_istore_n_2 (pc' := 48) hX dX1_columnSum_47 (by decide) rfl rfl ?_
        refine g_goto (tgt := 10) hX dX1_columnSum_48 (by decide) ?_
        exact ih (i + 1) _ _ (by omega) (by omega) hI2 hG2 (by omega)
  exact GG_less (loop 9 0 w6 (9, 0) (by omega) (by omega) hI hG (by omega)) (by omega) (by omega)

theorem c_k_forbiddenCount (hH : XX E xo b n m h sn sm sh e w) : Call E mX1_forbiddenCount 3 8 32 [vR xo] w (qI (fun z w' => z = cF n m h ∧ Gr NoP w w')) := by
  refine call_of (av := [(1, xo)]) (by decide +kernel) rfl (Nat.le_of_ble_eq_true rfl) ?_
  intro X hX hF hname
  show GG X 8 32 w 0 [(1, xo), (9, 0), (9, 0), (9, 0), (9, 0), (9, 0)] []
  obtain ⟨hX0, hO, hT, hQ, hE⟩ := id hH
  obtain ⟨⟨⟨f0, f1, f3, f4⟩, nb, sb⟩, ⟨t1, t2, t3⟩, hb1, hb2⟩ := hT
  refine g_iconst (pc' := 1) hX dX1_forbiddenCount_0 rfl ?_
  refine g_istore_n_1 (pc' := 2) hX dX1_forbiddenCount_1 (by decide) rfl rfl ?_
  refine g_aload_n (pc' := 3) hX dX1_forbiddenCount_2 rfl rfl ?_
  refine gf_X1_20 (pc' := 6) hX dX1_forbiddenCount_3 hH.1.h0 hH.1.hk rfl ?_
  refine gV0A (pc' := 9) hX dX1_forbiddenCount_6 ml_X1_104 gc_J2 t1.1.h0 t1.1.1.2.1 (c_j_iterator hO t1.1) (Nat.le_of_ble_eq_true rfl) (by decide) (by omega) rfl (fun r6 w6 q6 => ?_)
  obtain ⟨hI, hk, hG⟩ := q6
  refine g_astore_n_2 (pc' := 10) hX dX1_forbiddenCount_9 (by decide) rfl rfl ?_
  have loop : ∀ (f : Nat) (i : Int) (u : Wd) (x3 x4 x5 : Nat × Int), 0 ≤ i → i ≤ n → IT E u r6 (rdw w xo 2) i → Gr NoP w u → n < i + f → GG X (7 - i).toNat (4 * (7 - i).toNat) u 10 [(1, xo), (0, sm' i.toNat (fun k => sm' m.toNat (fun q => hfg (h k q)))), (1, r6), x3, x4, x5] [] := by
    intro f
    induction f with
    | zero => intro i u x3 x4 x5 i0 i1 hI hG hf; exact absurd hf (by omega)
    | succ f ih =>
      intro i u x3 x4 x5 i0 i1 hI hG hf
      have hTu := (t1.nop hO hG).1
      refine g_aload_n (pc' := 11) hX dX1_forbiddenCount_10 rfl rfl ?_
      refine gF0E0 (pc' := 16) hX dX1_forbiddenCount_11 ml_X1_108_J19 gc_J19 (nn_b hI.1.1) hI.1.2 (c_j_hasNext hTu.1 (by omega) hI ⟨i0, i1⟩) (Nat.le_of_ble_eq_true rfl) (by decide) rfl ?_
      refine g_if_eq (pc' := 19) (tgt := 79) hX dX1_forbiddenCount_16 (by decide) rfl (by omega) (fun h16 => ?_) (fun h16 => ?_)
      · skip
        refine g_iload_n (pc' := 80) hX dX1_forbiddenCount_79 rfl rfl ?_
        exact g_retI hX hF dX1_forbiddenCount_80 ⟨by rw [show i = n by omega]; rfl, hG⟩
      · skip
        refine g_aload_n (pc' := 20) hX dX1_forbiddenCount_19 rfl rfl ?_
        refine gF0EA0 (pc' := 25) hX dX1_forbiddenCount_20 ml_X1_114_J19 gc_J19 (nn_b hI.1.1) hI.1.2 (c_j_next hTu.1 hI (by omega)) (Nat.le_of_ble_eq_true rfl) (by decide) rfl ?_
        have hto := t1.out hG hO i0 (show i < n by omega)
        obtain ⟨hI2, hGi⟩ := hI.nx hTu.1.1.2.1
        have hG2 : Gr NoP w (upw (upw u r6 0 (i + 1)) r6 1 i) := hG.trN hGi (fun a i hk' z => hk' (by rw [z]; exact hk))
        rw [hto.1]
        have hto2 := t1.out hG2 hO i0 (show i < n by omega)
        have hRu := hto2.2.1
        have hkT : kdw (upw (upw u r6 0 (i + 1)) r6 1 i) (rdw w xo 2) ≠ 0 := by rw [kd_up, kd_up, hTu.1.1.2.1]; decide
        refine g_cast (pc' := 28) hX dX1_forbiddenCount_25 gc_J2 q104 hRu.h0 hRu.1.2.1 rfl ?_
        refine g_astore_n_3 (pc' := 29) hX dX1_forbiddenCount_28 (by decide) rfl rfl ?_
        refine g_aload_n (pc' := 30) hX dX1_forbiddenCount_29 rfl rfl ?_
        refine gV0A (pc' := 33) hX dX1_forbiddenCount_30 ml_X1_104 gc_J2 hRu.h0 hRu.1.2.1 (c_j_iterator (hO.nop hG2) hRu) (Nat.le_of_ble_eq_true rfl) (by decide) (by omega) rfl (fun r30 w30 q30 => ?_)
        obtain ⟨hJ, hkj, hGj⟩ := q30
        have hI3 := hI2.nop hGj hkT
        have hG3 := hG2.tr hGj
        have hkj0 := hG2.new0 hkj
        have hne : r6 ≠ r30 := fun z => by rw [← z, hI2.1.2] at hkj; omega
        refine g_astore_4 (pc' := 35) hX dX1_forbiddenCount_33 (by decide) rfl rfl ?_
        have loop2 : ∀ (g : Nat) (j : Int) (v : Wd) (x5 : Nat × Int), 0 ≤ j → j ≤ m → IT E v r30 (el w (rdw w xo 2) i) j → IT E v r6 (rdw w xo 2) (i + 1) → Gr NoP w v → m < j + g → GG X (6 - i).toNat (4 * (6 - i).toNat) v 35 [(1, xo), (0, sm' i.toNat (fun k => sm' m.toNat (fun q => hfg (h k q))) + sm' j.toNat (fun q => hfg (h i q))), (1, r6), (1, el w (rdw w xo 2) i), (1, r30), x5] [] := by
          intro g
          induction g with
          | zero => intro j v x5 _ _ _ _ _ hg; exact absurd hg (by omega)
          | succ g ih2 =>
            intro j v x5 j0 j1 hJ hI hG hg
            have hto3 := t1.out hG hO i0 (show i < n by omega)
            have hRv := hto3.2.1
            refine g_aload (pc' := 37) hX dX1_forbiddenCount_35 rfl rfl ?_
            refine gF0E0 (pc' := 42) hX dX1_forbiddenCount_37 ml_X1_108_J19 gc_J19 (nn_b hJ.1.1) hJ.1.2 (c_j_hasNext hRv (by omega) hJ ⟨j0, j1⟩) (Nat.le_of_ble_eq_true rfl) (by decide) rfl ?_
            refine g_if_eq (pc' := 45) (tgt := 76) hX dX1_forbiddenCount_42 (by decide) rfl (by omega) (fun h42 => ?_) (fun h42 => ?_)
            · skip
              refine g_goto (tgt := 10) hX dX1_forbiddenCount_76 (by decide) ?_
              have hs2 : sm' i.toNat (fun k => sm' m.toNat (fun q => hfg (h k q))) + sm' j.toNat (fun q => hfg (h i q)) = sm' (i + 1).toNat (fun k => sm' m.toNat (fun q => hfg (h k q))) := by rw [show j = m by omega]; exact (sm_s i0).symm
              rw [hs2]
              exact GG_less (ih (i + 1) _ _ _ _ (by omega) (by omega) hI hG (by omega)) (by omega) (by omega)
            · skip
              refine g_aload (pc' := 47) hX dX1_forbiddenCount_45 rfl rfl ?_
              refine gF0EA0 (pc' := 52) hX dX1_forbiddenCount_47 ml_X1_114_J19 gc_J19 (nn_b hJ.1.1) hJ.1.2 (c_j_next hRv hJ (by omega)) (Nat.le_of_ble_eq_true rfl) (by decide) rfl ?_
              obtain ⟨hJ2, hGi2⟩ := hJ.nx hRv.1.2.1
              have hG4 : Gr NoP w (upw (upw v r30 0 (j + 1)) r30 1 j) := hG.trN hGi2 (fun a i hk' z => hk' (by rw [z]; exact hkj0))
              have hI4 := hI.gr hGi2 (fun _ z => hne z) (fun z => by have h1 := hJ.1.2; rw [← z, ((t1.nop hO hG).1).1.1.2.1] at h1; omega) (by rw [((t1.nop hO hG).1).1.1.2.1]; decide)
              rw [hto3.2.2 j j0 (by omega)]
              obtain ⟨hbx0, hlt⟩ := t1.2.2.1 i j i0 (by omega) j0 (by omega)
              have hbx := hbx0.gr hG4 id
              have hbb := hb1 i j i0 (by omega) j0 (by omega)
              generalize upw (upw v r30 0 (j + 1)) r30 1 j = v2 at *
              refine g_cast (pc' := 55) hX dX1_forbiddenCount_52 gc_J4 q475 hbx.1 hbx.2.1 rfl ?_
              refine g_astore_5 (pc' := 57) hX dX1_forbiddenCount_55 (by decide) rfl rfl ?_
              refine g_iload_n (pc' := 58) hX dX1_forbiddenCount_57 rfl rfl ?_
              refine g_aload (pc' := 60) hX dX1_forbiddenCount_58 rfl rfl ?_
              refine gV0E0 (pc' := 63) hX dX1_forbiddenCount_60 ml_X1_135 gc_J4 hbx.1 hbx.2.1 (c_j_intValue hbx) (Nat.le_of_ble_eq_true rfl) (by decide) rfl ?_
              refine g_if_ge (pc' := 66) (tgt := 70) hX dX1_forbiddenCount_63 (by decide) rfl (by omega) (fun h63 => ?_) (fun h63 => ?_)
              · skip
                refine g_iconst (pc' := 71) hX dX1_forbiddenCount_70 rfl ?_
                refine g_iadd (pc' := 72) hX dX1_forbiddenCount_71 rfl ?_
                first
                  | rw [show (1 : Int) = hfg (h i j) from by unfold hfg; rw [if_pos (by omega)]]
                  | rw [show (0 : Int) = hfg (h i j) from by unfold hfg; rw [if_neg (by omega)]]
                rw [Int.add_assoc, ← sm_s (f := fun q => hfg (h i q)) j0]
                refine g_istore_n_1 (pc' := 73) hX dX1_forbiddenCount_72 (by decide) rfl rfl ?_
                refine g_goto (tgt := 35) hX dX1_forbiddenCount_73 (by decide) ?_
                exact ih2 (j + 1) _ _ (by omega) (by omega) hJ2 hI4 hG4 (by omega)
              · skip
                refine g_iconst (pc' := 67) hX dX1_forbiddenCount_66 rfl ?_
                refine g_goto (tgt := 71) hX dX1_forbiddenCount_67 (by decide) ?_
                refine g_iadd (pc' := 72) hX dX1_forbiddenCount_71 rfl ?_
                first
                  | rw [show (1 : Int) = hfg (h i j) from by unfold hfg; rw [if_pos (by omega)]]
                  | rw [show (0 : Int) = hfg (h i j) from by unfold hfg; rw [if_neg (by omega)]]
                rw [Int.add_assoc, ← sm_s (f := fun q => hfg (h i q)) j0]
                refine g_istore_n_1 (pc' := 73) hX dX1_forbiddenCount_72 (by decide) rfl rfl ?_
                refine g_goto (tgt := 35) hX dX1_forbiddenCount_73 (by decide) ?_
                exact ih2 (j + 1) _ _ (by omega) (by omega) hJ2 hI4 hG4 (by omega)
        have hz : sm' i.toNat (fun k => sm' m.toNat (fun q => hfg (h k q))) = sm' i.toNat (fun k => sm' m.toNat (fun q => hfg (h k q))) + sm' (0 : Int).toNat (fun q => hfg (h i q)) := (Int.add_zero _).symm
        rw [hz]
        exact GG_less (loop2 9 0 w30 x5 (by omega) (by omega) hJ hI3 hG3 (by omega)) (by omega) (by omega)
  exact GG_less (loop 9 0 w6 (9, 0) (9, 0) (9, 0) (by omega) (by omega) hI hG (by omega)) (by omega) (by omega)

theorem c_k_totalCost (hH : XX E xo b n m h sn sm sh e w) : Call E mX1_totalCost 4 7 28 [vR xo] w (qI (fun z w' => z = tS n m h ∧ Gr NoP w w')) := by
  refine call_of (av := [(1, xo)]) (by decide +kernel) rfl (Nat.le_of_ble_eq_true rfl) ?_
  intro X hX hF hname
  show GG X 7 28 w 0 [(1, xo), (9, 0), (9, 0)] []
  have hb := hH.2.2.1.1.2
  refine g_iconst (pc' := 1) hX dX1_totalCost_0 rfl ?_
  refine g_istore_n_1 (pc' := 2) hX dX1_totalCost_1 (by decide) rfl rfl ?_
  refine g_iconst (pc' := 3) hX dX1_totalCost_2 rfl ?_
  refine g_istore_n_2 (pc' := 4) hX dX1_totalCost_3 (by decide) rfl rfl ?_
  have loop : ∀ (f : Nat) (i : Int) (u : Wd), 0 ≤ i → i ≤ n → Gr NoP w u → n < i + f → GG X (7 - i).toNat (4 * (7 - i).toNat) u 4 [(1, xo), (0, sm' i.toNat (rS n m h)), (0, i)] [] := by
    intro f
    induction f with
    | zero => intro i u i0 i1 hG hf; exact absurd hf (by omega)
    | succ f ih =>
      intro i u i0 i1 hG hf
      have hHu := hH.nop hG
      refine g_iload_n (pc' := 5) hX dX1_totalCost_4 rfl rfl ?_
      refine g_aload_n (pc' := 6) hX dX1_totalCost_5 rfl rfl ?_
      refine gf_X1_7 (pc' := 9) hX dX1_totalCost_6 hHu.1.h0 hHu.1.hk rfl ?_
      rw [hHu.2.2.1.1.1.1]
      refine g_icmp_ge (pc' := 12) (tgt := 26) hX dX1_totalCost_9 (by decide) rfl (by omega) (by omega) (fun h9 => ?_) (fun h9 => ?_)
      · skip
        refine g_iload_n (pc' := 27) hX dX1_totalCost_26 rfl rfl ?_
        exact g_retI hX hF dX1_totalCost_27 ⟨by rw [show i = n by omega]; rfl, hG⟩
      · skip
        refine g_iload_n (pc' := 13) hX dX1_totalCost_12 rfl rfl ?_
        refine g_aload_n (pc' := 14) hX dX1_totalCost_13 rfl rfl ?_
        refine g_iload_n (pc' := 15) hX dX1_totalCost_14 rfl rfl ?_
        refine gV1I (pc' := 18) hX dX1_totalCost_15 ml_X1_212 gc_X1 hHu.1.h0 hHu.1.hk (c_k_rowSum hHu ⟨i0, by omega⟩) (Nat.le_of_ble_eq_true rfl) (by decide) (by omega) rfl (fun r15 w15 q15 => ?_)
        obtain ⟨rfl, hG15⟩ := q15
        have hG2 := hG.tr hG15
        refine g_iadd (pc' := 19) hX dX1_totalCost_18 rfl ?_
        rw [← sm_s i0]
        refine g_istore_n_1 (pc' := 20) hX dX1_totalCost_19 (by decide) rfl rfl ?_
        refine g_iinc_2 (pc' := 23) hX dX1_totalCost_20 (by decide) rfl rfl ?_
        refine g_goto (tgt := 4) hX dX1_totalCost_23 (by decide) ?_
        exact GG_less (ih (i + 1) _ (by omega) (by omega) hG2 (by omega)) (by omega) (by omega)
  exact GG_less (loop 9 0 w (by omega) (by omega) Gr.rf (by omega)) (by omega) (by omega)

theorem c_x_costAt (hH : XX E xo b n m h sn sm sh e w) (br : -2147483648 ≤ r ∧ r ≤ 2147483647) (bc : -2147483648 ≤ c ∧ c ≤ 2147483647) : Call E mX1_costAt 8 1 6 [vR xo, vI r, vI c] w (qC (if 0 ≤ r ∧ r ≤ n - 1 ∧ 0 ≤ c ∧ c ≤ n - 1 then 0 else 1) (tC m h r c) (fun w' => Gr NoP w w') w) := by
  refine call_of (av := [(1, xo), (0, r), (0, c)]) (by decide +kernel) rfl (Nat.le_of_ble_eq_true rfl) ?_
  intro X hX hF hname
  show GG X 1 6 w 0 [(1, xo), (0, r), (0, c)] []
  have hb := hH.2.2.1.1.2
  refine g_aload_n (pc' := 1) hX dX1_costAt_0 rfl rfl ?_
  refine g_iload_n (pc' := 2) hX dX1_costAt_1 rfl rfl ?_
  refine gV1E0 (pc' := 5) hX dX1_costAt_2 ml_X1_169 gc_X1 hH.1.h0 hH.1.hk (c_k_isRow hH.1 hH.2.2.1.1.1.1 (by omega) (by omega)) (Nat.le_of_ble_eq_true rfl) (by decide) rfl ?_
  refine g_if_eq (pc' := 8) (tgt := 20) hX dX1_costAt_5 (by decide) rfl (by omega) (fun h5 => ?_) (fun h5 => ?_)
  · skip
    refine g_iconst (pc' := 21) hX dX1_costAt_20 rfl ?_
    refine gS1UX (pc' := 24) hX dX1_costAt_21 ml_X1_176 (c_k_needPlace (by omega)) (Nat.le_of_ble_eq_true rfl) (by decide) ⟨by omega, by omega⟩ rfl (fun w2 q => absurd q.1 (by decide)) (fun k2 w2 hk0 hq => ?_)
    obtain ⟨rfl, hz21, hG21⟩ := hq
    exact g_outX hX hF hk0 ⟨by (repeat' split) <;> omega, hG21⟩
  · skip
    refine g_aload_n (pc' := 9) hX dX1_costAt_8 rfl rfl ?_
    refine g_iload_n (pc' := 10) hX dX1_costAt_9 rfl rfl ?_
    refine gV1E0 (pc' := 13) hX dX1_costAt_10 ml_X1_169 gc_X1 hH.1.h0 hH.1.hk (c_k_isRow hH.1 hH.2.2.1.1.1.1 (by omega) (by omega)) (Nat.le_of_ble_eq_true rfl) (by decide) rfl ?_
    refine g_if_eq (pc' := 16) (tgt := 20) hX dX1_costAt_13 (by decide) rfl (by omega) (fun h13 => ?_) (fun h13 => ?_)
    · skip
      refine g_iconst (pc' := 21) hX dX1_costAt_20 rfl ?_
      refine gS1UX (pc' := 24) hX dX1_costAt_21 ml_X1_176 (c_k_needPlace (by omega)) (Nat.le_of_ble_eq_true rfl) (by decide) ⟨by omega, by omega⟩ rfl (fun w2 q => absurd q.1 (by decide)) (fun k2 w2 hk0 hq => ?_)
      obtain ⟨rfl, hz21, hG21⟩ := hq
      exact g_outX hX hF hk0 ⟨by (repeat' split) <;> omega, hG21⟩
    · skip
      refine g_iconst (pc' := 17) hX dX1_costAt_16 rfl ?_
      refine g_goto (tgt := 21) hX dX1_costAt_17 (by decide) ?_
      refine gS1UX (pc' := 24) hX dX1_costAt_21 ml_X1_176 (c_k_needPlace (by omega)) (Nat.le_of_ble_eq_true rfl) (by decide) ⟨by omega, by omega⟩ rfl (fun w21 q21 => ?_) (fun k2 w2 hk0 hq => absurd hq.2.1 (by decide))
      obtain ⟨-, hw21⟩ := q21
      rw [hw21]
      refine g_aload_n (pc' := 25) hX dX1_costAt_24 rfl rfl ?_
      refine g_iload_n (pc' := 26) hX dX1_costAt_25 rfl rfl ?_
      refine g_iload_n (pc' := 27) hX dX1_costAt_26 rfl rfl ?_
      refine gV2E0 (pc' := 30) hX dX1_costAt_27 ml_X1_204 gc_X1 hH.1.h0 hH.1.hk (c_k_costHere hH.1 hH.2.2.1 (by omega) (by omega)) (Nat.le_of_ble_eq_true rfl) (by decide) rfl ?_
      exact g_retIX hX hF dX1_costAt_30 ⟨by rw [if_pos (by omega)], rfl, Gr.rf⟩

theorem c_x_distance (hH : XX E xo b n m h sn sm sh e w) : Call E mX1_distance 5 0 0 [vR xo] w (qE (dS n m h sn sm sh) w) := by
  refine call_of (av := [(1, xo)]) (by decide +kernel) rfl (Nat.le_of_ble_eq_true rfl) ?_
  intro X hX hF hname
  show GG X 0 0 w 0 [(1, xo), (9, 0), (9, 0), (9, 0)] []
  obtain ⟨hX0, hO, hT, hQ, hE⟩ := id hH
  obtain ⟨⟨⟨f0, f1, f3, f4⟩, nb, sb⟩, ⟨t1, t2, t3⟩, hb1, hb2⟩ := hT
  have hF0 := hF
  have hcb : ∀ i j : Int, 0 ≤ i → i < n → 0 ≤ j → j < m → 0 ≤ tC m h i j ∧ tC m h i j ≤ 1000 := fun i j i0 i1 j0 j1 => by have := hb1 i j i0 i1 j0 j1; unfold tC; (repeat' split) <;> omega
  have hcs : ∀ i j : Int, 0 ≤ i → i < sn → 0 ≤ j → j < sm → 0 ≤ tC sm sh i j ∧ tC sm sh i j ≤ 1000 := fun i j i0 i1 j0 j1 => by have := hb2 i j i0 i1 j0 j1; unfold tC; (repeat' split) <;> omega
  refine g_aload_n (pc' := 1) hX dX1_distance_0 rfl rfl ?_
  refine gf_X1_7 (pc' := 4) hX dX1_distance_1 hH.1.h0 hH.1.hk rfl ?_
  rw [f0]
  refine g_aload_n (pc' := 5) hX dX1_distance_4 rfl rfl ?_
  refine gf_X1_24 (pc' := 8) hX dX1_distance_5 hH.1.h0 hH.1.hk rfl ?_
  rw [f3]
  refine g_icmp_ne (pc' := 11) (tgt := 22) hX dX1_distance_8 (by decide) rfl (by omega) (by omega) (fun h8 => ?_) (fun h8 => ?_)
  · skip
    refine g_iconst (pc' := 23) hX dX1_distance_22 rfl ?_
    exact g_retE hX hF0 dX1_distance_23 (by unfold dS; rw [if_neg (by omega)]) rfl
  · skip
    refine g_aload_n (pc' := 12) hX dX1_distance_11 rfl rfl ?_
    refine gf_X1_13 (pc' := 15) hX dX1_distance_12 hH.1.h0 hH.1.hk rfl ?_
    rw [f1]
    refine g_aload_n (pc' := 16) hX dX1_distance_15 rfl rfl ?_
    refine gf_X1_27 (pc' := 19) hX dX1_distance_16 hH.1.h0 hH.1.hk rfl ?_
    rw [f4]
    refine g_icmp_eq (pc' := 22) (tgt := 24) hX dX1_distance_19 (by decide) rfl (by omega) (by omega) (fun h19 => ?_) (fun h19 => ?_)
    · skip
      refine g_iconst (pc' := 25) hX dX1_distance_24 rfl ?_
      refine g_istore_n_1 (pc' := 26) hX dX1_distance_25 (by decide) rfl rfl ?_
      refine g_iconst (pc' := 27) hX dX1_distance_26 rfl ?_
      refine g_istore_n_2 (pc' := 28) hX dX1_distance_27 (by decide) rfl rfl ?_
      have loop : ∀ (f : Nat) (i : Int) (x3 : Nat × Int), 0 ≤ i → i ≤ n → n < i + f → GG X 0 0 w 28 [(1, xo), (0, sm' i.toNat (fun k => sm' m.toNat (fun q => ab (tC m h k q - tC sm sh k q)))), (0, i), x3] [] := by
        intro f
        induction f with
        | zero => intro i x3 i0 i1 hf; exact absurd hf (by omega)
        | succ f ih =>
          intro i x3 i0 i1 hf
          refine g_iload_n (pc' := 29) hX dX1_distance_28 rfl rfl ?_
          refine g_aload_n (pc' := 30) hX dX1_distance_29 rfl rfl ?_
          refine gf_X1_7 (pc' := 33) hX dX1_distance_30 hH.1.h0 hH.1.hk rfl ?_
          rw [f0]
          refine g_icmp_ge (pc' := 36) (tgt := 85) hX dX1_distance_33 (by decide) rfl (by omega) (by omega) (fun h33 => ?_) (fun h33 => ?_)
          · skip
            refine g_iload_n (pc' := 86) hX dX1_distance_85 rfl rfl ?_
            refine g_retE hX hF0 dX1_distance_86 ?_ rfl
            unfold dS
            rw [if_pos (by omega), show i = n by omega]
            refine sm_cg (fun k k0 k1 => ?_)
            rw [show n.toNat = m.toNat + (n.toNat - m.toNat) by omega]
            refine (sm_tail _ (fun q _ _ => rfl) (fun q q0 => ?_)).symm
            have e1 : tC m h k q = 0 := by unfold tC; rw [if_pos (by omega)]
            have e2 : tC sm sh k q = 0 := by unfold tC; rw [if_pos (by omega)]
            show ab (tC m h k q - tC sm sh k q) = 0
            rw [e1, e2]; rfl
          · skip
            refine g_iconst (pc' := 37) hX dX1_distance_36 rfl ?_
            refine g_istore_n_3 (pc' := 38) hX dX1_distance_37 (by decide) rfl rfl ?_
            have loop2 : ∀ (g : Nat) (j : Int), 0 ≤ j → j ≤ m → m < j + g → GG X 0 0 w 38 [(1, xo), (0, sm' i.toNat (fun k => sm' m.toNat (fun q => ab (tC m h k q - tC sm sh k q))) + sm' j.toNat (fun q => ab (tC m h i q - tC sm sh i q))), (0, i), (0, j)] [] := by
              intro g
              induction g with
              | zero => intro j _ _ hg; exact absurd hg (by omega)
              | succ g ih2 =>
                intro j j0 j1 hg
                refine g_iload_n (pc' := 39) hX dX1_distance_38 rfl rfl ?_
                refine g_aload_n (pc' := 40) hX dX1_distance_39 rfl rfl ?_
                refine gf_X1_13 (pc' := 43) hX dX1_distance_40 hH.1.h0 hH.1.hk rfl ?_
                rw [f1]
                refine g_icmp_ge (pc' := 46) (tgt := 79) hX dX1_distance_43 (by decide) rfl (by omega) (by omega) (fun h43 => ?_) (fun h43 => ?_)
                · skip
                  refine g_iinc_2 (pc' := 82) hX dX1_distance_79 (by decide) rfl rfl ?_
                  refine g_goto (tgt := 28) hX dX1_distance_82 (by decide) ?_
                  have hs2 : sm' i.toNat (fun k => sm' m.toNat (fun q => ab (tC m h k q - tC sm sh k q))) + sm' j.toNat (fun q => ab (tC m h i q - tC sm sh i q)) = sm' (i + 1).toNat (fun k => sm' m.toNat (fun q => ab (tC m h k q - tC sm sh k q))) := by rw [show j = m by omega]; exact (sm_s i0).symm
                  rw [hs2]
                  exact ih (i + 1) _ (by omega) (by omega) (by omega)
                · skip
                  refine g_iload_n (pc' := 47) hX dX1_distance_46 rfl rfl ?_
                  refine g_aload_n (pc' := 48) hX dX1_distance_47 rfl rfl ?_
                  refine g_iload_n (pc' := 49) hX dX1_distance_48 rfl rfl ?_
                  refine g_iload_n (pc' := 50) hX dX1_distance_49 rfl rfl ?_
                  refine gV2E0 (pc' := 53) hX dX1_distance_50 ml_X1_204 gc_X1 hH.1.h0 hH.1.hk (c_k_costHere hX0 hH.2.2.1 (by omega) (by omega)) (Nat.le_of_ble_eq_true rfl) (by decide) rfl ?_
                  have c1 := hcb i j i0 (by omega) j0 (by omega)
                  have c2 := hcs i j i0 (by omega) j0 (by omega)
                  refine g_aload_n (pc' := 54) hX dX1_distance_53 rfl rfl ?_
                  refine g_aload_n (pc' := 55) hX dX1_distance_54 rfl rfl ?_
                  refine gf_X1_30 (pc' := 58) hX dX1_distance_55 hH.1.h0 hH.1.hk rfl ?_
                  refine g_aload_n (pc' := 59) hX dX1_distance_58 rfl rfl ?_
                  refine gf_X1_27 (pc' := 62) hX dX1_distance_59 hH.1.h0 hH.1.hk rfl ?_
                  rw [f4]
                  refine g_iload_n (pc' := 63) hX dX1_distance_62 rfl rfl ?_
                  refine g_iload_n (pc' := 64) hX dX1_distance_63 rfl rfl ?_
                  refine gV4E0 (pc' := 67) hX dX1_distance_64 ml_X1_143 gc_X1 hH.1.h0 hH.1.hk (c_k_costIn hX0 t2 (by omega) (by omega) (by omega) hb2) (Nat.le_of_ble_eq_true rfl) (by decide) rfl ?_
                  refine g_isub (pc' := 68) hX dX1_distance_67 rfl ?_
                  refine g_mabs (pc' := 71) hX dX1_distance_68 q529 q530 q64 q531 (by omega) (by omega) (Nat.le_of_ble_eq_true rfl) rfl ?_
                  refine g_iadd (pc' := 72) hX dX1_distance_71 rfl ?_
                  rw [Int.add_assoc, ← sm_s (f := fun q => ab (tC m h i q - tC sm sh i q)) j0]
                  refine g_istore_n_1 (pc' := 73) hX dX1_distance_72 (by decide) rfl rfl ?_
                  refine g_iinc_3 (pc' := 76) hX dX1_distance_73 (by decide) rfl rfl ?_
                  refine g_goto (tgt := 38) hX dX1_distance_76 (by decide) ?_
                  exact ih2 (j + 1) (by omega) (by omega) (by omega)
            have hz : sm' i.toNat (fun k => sm' m.toNat (fun q => ab (tC m h k q - tC sm sh k q))) = sm' i.toNat (fun k => sm' m.toNat (fun q => ab (tC m h k q - tC sm sh k q))) + sm' (0 : Int).toNat (fun q => ab (tC m h i q - tC sm sh i q)) := (Int.add_zero _).symm
            rw [hz]
            exact loop2 9 0 (by omega) (by omega) (by omega)
      exact loop 9 0 (9, 0) (by omega) (by omega) (by omega)
    · skip
      refine g_iconst (pc' := 23) hX dX1_distance_22 rfl ?_
      exact g_retE hX hF0 dX1_distance_23 (by unfold dS; rw [if_neg (by omega)]) rfl

end K4S
