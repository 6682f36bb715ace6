/-! THE COMPONENT: tables replaced (by gen/spec_k8.py) -/
set_option maxRecDepth 100000
set_option maxHeartbeats 4000000
section K8S
variable {E : Ev} {w w0 u u' : Wd} {P : Int → Int → Prop} {T R L r c n m n' m' sn sm l l2 i j k v a z xo b it x n0 p : Int} {h h' sh C0 : Int → Int → Int} {f g : Int → Int} {e : En}
/-- rows in another order -/
theorem TB.perm (H : TB E w T r c h) (hO : OW E w) (hA : AL E u T r) (hG : Gr (fun a _ => aP E w T a) w u) (g1 : ∀ k : Int, 0 ≤ k → k < r → 0 ≤ g k ∧ g k < r) (g2 : ∀ i j : Int, 0 ≤ i → i < r → 0 ≤ j → j < r → g i = g j → i = j) (he : ∀ k : Int, 0 ≤ k → k < r → el u T k = el w T (g k)) : TB E u T r c (fun i j => h (g i) j) := by
  have hP : ∀ a, aP E w T a → (eB E : Int) ≤ a := fun a z => aP_b H.1 z
  refine ⟨hA, fun k k0 k1 => ?_, fun k q k0 k1 q0 q1 => ?_, fun k q k0 k1 q0 q1 e => ?_⟩
  · have h1 := g1 k k0 k1
    have h2 := H.2.1 (g k) h1.1 h1.2
    rw [he k k0 k1]
    have h3 := apd hO H.1 h2.1 h2.2
    exact ⟨(h2.1.gr hG h3.1 h3.1 hO).1, h2.2⟩
  · have h1 := g1 k k0 k1
    have h2 := H.2.1 (g k) h1.1 h1.2
    have h3 := apd hO H.1 h2.1 h2.2
    have h4 := H.2.2.1 (g k) q h1.1 h1.2 q0 q1
    rw [he k k0 k1, h2.1.els hG h3.1 ⟨q0, q1⟩ h3.2]
    exact ⟨h4.1.gr hG (fun z => by have := hP _ z; omega), h4.2⟩
  · rw [he k k0 k1, he q q0 q1] at e
    have a1 := g1 k k0 k1
    have a2 := g1 q q0 q1
    exact g2 k q k0 k1 q0 q1 (H.2.2.2 _ _ a1.1 a1.2 a2.1 a2.2 e)
theorem YY.perm (H : YY E xo b n m h sn sm sh n0 C0 e w) (hA : AL E u (rdw w xo 2) n) (hG : Gr (fun a _ => aP E w (rdw w xo 2) a) w u) (g1 : ∀ k : Int, 0 ≤ k → k < n → 0 ≤ g k ∧ g k < n) (g2 : ∀ i j : Int, 0 ≤ i → i < n → 0 ≤ j → j < n → g i = g j → i = j) (he : ∀ k : Int, 0 ≤ k → k < n → el u (rdw w xo 2) k = el w (rdw w xo 2) (g k)) : YY E xo b n m (fun i j => h (g i) j) sn sm sh n0 C0 e u ∧ Gr (fun a _ => ZX xo b w a) w u := by
  obtain ⟨hX, hO, ⟨⟨⟨f0, f1, f3, f4⟩, nb, sb⟩, ⟨t1, t2, t3⟩, hb1, hb2⟩, hQ, hE⟩ := H
  have hP : ∀ a i, (fun a (_ : Int) => aP E w (rdw w xo 2) a) a i → (eB E : Int) ≤ a := fun a _ z => aP_b t1.1 z
  obtain ⟨hX', hO', hQ', hE', eF⟩ := YY.lists hX hO hQ hE hG (fun a i z => ⟨hP a i z, _, _, t1.1, Or.elim z Or.inl (fun y => Or.inr y.1)⟩)
  have s := t1.perm hO hA hG g1 g2 he
  have hne : ¬ LSt w (rdw w xo 5) sn (rdw w xo 2) := t3 _ (Or.inl rfl)
  have s2 := t2.ap hO t1.1 hne hG
  have hls : ∀ y, LSt u (rdw w xo 2) n y → LSt w (rdw w xo 2) n y := fun y hy => by
    rcases hy with z | ⟨k, k0, k1, z⟩
    · exact Or.inl z
    · exact Or.inr ⟨g k, (g1 k k0 k1).1, (g1 k k0 k1).2, by rw [← he k k0 k1]; exact z⟩
  refine ⟨⟨hX', hO', ⟨⟨⟨by rw [eF]; exact f0, by rw [eF]; exact f1, by rw [eF]; exact f3, by rw [eF]; exact f4⟩, nb, sb⟩, ⟨by rw [eF]; exact s, by rw [eF]; exact s2.1, fun l hl => ?_⟩, fun i j i0 i1 j0 j1 => hb1 _ _ (g1 i i0 i1).1 (g1 i i0 i1).2 j0 j1, hb2⟩, hQ', hE'⟩, hG.wk (fun a i z => ?_)⟩
  · rw [eF] at hl
    have h1 := hls l hl
    exact fun z => t3 l h1 ((LSt.cg (eF 5) (fun i i0 i1 => (s2.2.2 i i0 i1).1)).mp z)
  · rcases z with z | ⟨z, z2⟩
    · exact Or.inr (Or.inl (by rw [z]; exact t1.1.1.2.1))
    · have := t1.1.arr (by omega)
      exact Or.inr (Or.inr (by rw [z]; omega))
theorem IT.ap (hI : IT E u it l2 k) (hl : AL E u l n) (hO : OW E u) (hne : l2 ≠ l) (h7 : kdw u l2 = 7) (hG : Gr (fun a _ => aP E u l a) u u') : IT E u' it l2 k := by
  have h1 := it_ap hI.1.2 hO hl
  refine hI.gr hG (fun i z => ?_) (fun z => ?_) (by omega)
  · rcases z with z | z
    · exact h1.1 z.symm
    · exact h1.2 z.1.symm
  · rcases z with z | ⟨z, z2⟩
    · exact hne z
    · rcases hl.2 with y | y
      · have a1 := y.1
        have a2 := hO.1.1.1
        omega
      · have a1 := y.2.1
        rw [← z, h7] at a1; omega
/-- a new table put in -/
theorem YY.repl (H : XX E xo b n m h sn sm sh e w) (hG : Gr (fun a i => a = xo ∧ i ≤ 2) w u) (hF : TF E w u T n' m' h') (hO' : OW E u) (f0 : rdw u xo 0 = n') (f1 : rdw u xo 1 = m') (f2 : rdw u xo 2 = T) (hb : 1 ≤ m' ∧ m' ≤ n' ∧ n' ≤ 7) (hh : ∀ i j : Int, 0 ≤ i → i < n' → 0 ≤ j → j < m' → -100 ≤ h' i j ∧ h' i j ≤ 99) : YY E xo b n' m' h' sn sm sh n (tC m h) e u ∧ Gr (fun a _ => ZX xo b w a) w u := by
  obtain ⟨hX, hO, ⟨⟨⟨f0', f1', f3, f4⟩, nb, sb⟩, ⟨t1, t2, t3⟩, hb1, hb2⟩, hQ, hE⟩ := H
  have hxb := hX.1.2.1
  have hx : kdw w xo ≠ 0 := by rw [hX.hk]; decide
  have hk1 := hX.hk
  have s2 := t2.zs hX hO hG (fun a i z => ⟨by rw [z.1]; exact hX.hb, Or.inl z.1⟩)
  have ef : ∀ i, 2 < i → rdw u xo i = rdw w xo i := fun i hi => hG.rd hx (fun z => by omega)
  refine ⟨⟨hX.gr hG (fun i z => by omega) (fun i z => by omega) (fun i z => by omega), hO', ⟨⟨⟨f0, f1, by rw [ef 3 (by omega)]; exact f3, by rw [ef 4 (by omega)]; exact f4⟩, hb, sb⟩, ⟨by rw [f2]; exact hF.1, by rw [ef 5 (by omega)]; exact s2.1, fun l hl z => ?_⟩, hh, hb2⟩,
    hQ.gr hG (fun i z => by omega) (fun a i hk z => by rw [z.1, hk1] at hk; unfold qk at hk; omega) (fun a i hk z => by rw [z.1, hk1] at hk; omega), hE.gr hX hG (fun i i0 i1 z => by omega) (fun i z => by omega) (fun a i hk z => by rw [z.1, hk1] at hk; unfold pk at hk; omega) (fun a i hk z => by rw [z.1, hk1] at hk; omega) (fun k i k0 k1 z => by omega)⟩, hG.wk (fun a i z => Or.inl (Or.inl z.1))⟩
  rw [f2] at hl
  have h1 := (hF.2 l hl).1
  have h2 := LSt.kd t2 ((LSt.cg (ef 5 (by omega)) (fun i i0 i1 => (s2.2.2 i i0 i1).1)).mp z)
  omega
theorem XX.replS (H : XX E xo b n m h sn sm sh e w) (hG : Gr (fun a i => a = xo ∧ 3 ≤ i ∧ i ≤ 5) w u) (hF : TF E w u T n m h) (hO' : OW E u) (f3 : rdw u xo 3 = n) (f4 : rdw u xo 4 = m) (f5 : rdw u xo 5 = T) : XX E xo b n m h n m h e u ∧ Gr (fun a _ => ZX xo b w a) w u := by
  obtain ⟨hX, hO, ⟨⟨⟨f0, f1, f3', f4'⟩, nb, sb⟩, ⟨t1, t2, t3⟩, hb1, hb2⟩, hQ, hE⟩ := H
  have hxb := hX.1.2.1
  have hx : kdw w xo ≠ 0 := by rw [hX.hk]; decide
  have hk1 := hX.hk
  have s1 := t1.zs hX hO hG (fun a i z => ⟨by rw [z.1]; exact hX.hb, Or.inl z.1⟩)
  have ef : ∀ i, i ≤ 2 → rdw u xo i = rdw w xo i := fun i hi => hG.rd hx (fun z => by omega)
  refine ⟨⟨hX.gr hG (fun i z => by omega) (fun i z => by omega) (fun i z => by omega), hO', ⟨⟨⟨by rw [ef 0 (by omega)]; exact f0, by rw [ef 1 (by omega)]; exact f1, f3, f4⟩, nb, nb⟩, ⟨by rw [ef 2 (by omega)]; exact s1.1, by rw [f5]; exact hF.1, fun l hl z => ?_⟩, hb1, hb1⟩,
    hQ.gr hG (fun i z => by omega) (fun a i hk z => by rw [z.1, hk1] at hk; unfold qk at hk; omega) (fun a i hk z => by rw [z.1, hk1] at hk; omega), hE.gr hX hG (fun i i0 i1 z => by omega) (fun i z => by omega) (fun a i hk z => by rw [z.1, hk1] at hk; unfold pk at hk; omega) (fun a i hk z => by rw [z.1, hk1] at hk; omega) (fun k i k0 k1 z => by omega)⟩, hG.wk (fun a i z => Or.inl (Or.inl z.1))⟩
  rw [f5] at z
  have h1 := (hF.2 l z).1
  have h2 := LSt.kd t1 ((LSt.cg (ef 2 (by omega)) (fun i i0 i1 => (s1.2.2 i i0 i1).1)).mp hl)
  omega
/-- a write of a field of the object, beside a table -/
theorem TF.fld (H : TF E w0 u T r c h) (hO : OW E u) (hk : kdw u xo = 1) (hb : (eB E : Int) ≤ xo) : TF E w0 (upw u xo i x) T r c h := by
  refine (H.gr (P := fun a _ => a = xo) (Gr.rf.up rfl) hO (fun a i z => by rw [z]; exact hb) (fun l i hl => ?_)).1
  obtain ⟨q, hq⟩ := H.1.al hl
  refine ⟨kd_ne hq.1.2.1 hk (by decide), fun z => ?_⟩
  rcases hq.2 with y | y
  · have := y.1; have := hO.1.1.1; omega
  · have := y.2.1; rw [z, hk] at this; omega
theorem c_k_copyOf (hO : OW E w) (H : TB E w T r c h) (hr : 1 ≤ r ∧ r ≤ 7) (hc : 1 ≤ c ∧ c ≤ 7) : Call E mX1_copyOf 5 82 727 [vR T] w (qA (fun L w' => TF E w w' L r c h ∧ Gr NoP w w' ∧ OW E w')) := by
  refine call_of (av := [(1, T)]) (by decide +kernel) rfl (Nat.le_of_ble_eq_true rfl) ?_
  intro X hX hF hname
  show GG X 82 727 w 0 [(1, T), (9, 0), (9, 0), (9, 0), (9, 0), (9, 0), (9, 0)] []
  refine g_newAL (pc' := 7) hX dX1_copyOf_0 dX1_copyOf_3 dX1_copyOf_4 hO (by decide) (by omega) (by omega) (by decide) rfl (fun u0 l0 a0 e0 k0 G0 O0 => ?_)
  have hA : TF E w u0 l0 0 c h := TF.new Gr.rf a0 e0 k0
  have hTs := (H.nop hO G0).1.1
  have hT7 : kdw w T = 7 := H.1.1.2.1
  refine g_astore_n_1 (pc' := 8) hX dX1_copyOf_7 (by decide) rfl rfl ?_
  refine g_aload_n (pc' := 9) hX dX1_copyOf_8 rfl rfl ?_
  refine gV0A (pc' := 12) hX dX1_copyOf_9 ml_X1_104 gc_J2 hTs.h0 hTs.1.2.1 (c_j_iterator O0 hTs) (Nat.le_of_ble_eq_true rfl) (by decide) (by omega) rfl (fun r9 w9 q9 => ?_)
  obtain ⟨hI, hk0, hG9⟩ := q9
  have hk := G0.new0 hk0
  have hG := G0.tr hG9
  have hA := (hA.nop hG9 O0).1
  refine g_astore_n_2 (pc' := 13) hX dX1_copyOf_12 (by decide) rfl rfl ?_
  have loop : ∀ (f : Nat) (i : Int) (u : Wd) (x3 x4 x5 x6 : Nat × Int), 0 ≤ i → i ≤ r → TF E w u l0 i c h → IT E u r9 T i → Gr NoP w u → r < i + f → GG X (10 * (8 - i).toNat) (90 * (8 - i).toNat) u 13 [(1, T), (1, l0), (1, r9), x3, x4, x5, x6] [] := by
    intro f
    induction f with
    | zero => intro i u x3 x4 x5 x6 i0 i1 hA hI hG hf; exact absurd hf (by omega)
    | succ f ih =>
      intro i u x3 x4 x5 x6 i0 i1 hA hI hG hf
      have hTs := (H.nop hO hG).1.1
      have hOu := hO.nop hG
      refine g_aload_n (pc' := 14) hX dX1_copyOf_13 rfl rfl ?_
      refine gF0E0 (pc' := 19) hX dX1_copyOf_14 ml_X1_108_J19 gc_J19 (nn_b hI.1.1) hI.1.2 (c_j_hasNext hTs (by omega) hI ⟨i0, i1⟩) (Nat.le_of_ble_eq_true rfl) (by decide) rfl ?_
      refine g_if_eq (pc' := 22) (tgt := 90) hX dX1_copyOf_19 (by decide) rfl (by omega) (fun h19 => ?_) (fun h19 => ?_)
      · skip
        refine g_aload_n (pc' := 91) hX dX1_copyOf_90 rfl rfl ?_
        exact g_retA hX hF rfl dX1_copyOf_91 ⟨by rw [show i = r by omega] at hA; exact hA, hG, hOu⟩
      · skip
        refine g_aload_n (pc' := 23) hX dX1_copyOf_22 rfl rfl ?_
        refine gF0EA0 (pc' := 28) hX dX1_copyOf_23 ml_X1_114_J19 gc_J19 (nn_b hI.1.1) hI.1.2 (c_j_next hTs hI (by omega)) (Nat.le_of_ble_eq_true rfl) (by decide) rfl ?_
        have hto := H.out hG hO i0 (show i < r by omega)
        obtain ⟨hI2, hGi⟩ := hI.nx hTs.1.2.1
        have hA2 := (hA.itr hI hOu hGi).1
        have hG2 : Gr NoP w (upw (upw u r9 0 (i + 1)) r9 1 i) := hG.trN hGi (fun a i hk' z => hk' (by rw [z]; exact hk))
        rw [hto.1]
        generalize upw (upw u r9 0 (i + 1)) r9 1 i = u2 at *
        have hRs := (H.out hG2 hO i0 (show i < r by omega)).2.1
        refine g_cast (pc' := 31) hX dX1_copyOf_28 gc_J2 q104 hRs.h0 hRs.1.2.1 rfl ?_
        refine g_astore_n_3 (pc' := 32) hX dX1_copyOf_31 (by decide) rfl rfl ?_
        refine g_newAL (pc' := 39) hX dX1_copyOf_32 dX1_copyOf_35 dX1_copyOf_36 (hO.nop hG2) (by decide) (by omega) (by omega) (by decide) rfl (fun u32 l32 a32 e32 k32 G32 O32 => ?_)
        have hOu2 := hO.nop hG2
        have hA3 := hA2.nop G32 hOu2
        have hR3 : RF E w u32 l32 0 (h i) := RF.new hG2 a32 e32 k32
        have hG3 := hG2.tr G32
        have hne3 : ¬ LSt u32 l0 i l32 := fun z => not_ls_new hA2.1 k32 ((hA3.2 l32).mp z)
        have hI3 := hI2.nop G32 (by rw [(H.nop hO hG2).1.1.1.2.1]; decide)
        have hRs := (H.out hG3 hO i0 (show i < r by omega)).2.1
        refine g_astore_4 (pc' := 41) hX dX1_copyOf_39 (by decide) rfl rfl ?_
        refine g_aload_n (pc' := 42) hX dX1_copyOf_41 rfl rfl ?_
        refine gV0A (pc' := 45) hX dX1_copyOf_42 ml_X1_104 gc_J2 hRs.h0 hRs.1.2.1 (c_j_iterator O32 hRs) (Nat.le_of_ble_eq_true rfl) (by decide) (by omega) rfl (fun r42 w42 q42 => ?_)
        obtain ⟨hJ, hkj0, hGj⟩ := q42
        have hkj := hG3.new0 hkj0
        have hA4 := (hA3.1.nop hGj O32)
        have hR4 := hR3.nop hGj O32
        have hne4 : ¬ LSt w42 l0 i l32 := fun z => hne3 ((hA4.2 l32).mp z)
        have hI4 := hI3.nop hGj (by rw [(H.nop hO hG3).1.1.1.2.1]; decide)
        have hG4 := hG3.tr hGj
        have hit : r9 ≠ r42 := fun z => by rw [← z, hI3.1.2] at hkj0; omega
        refine g_astore_5 (pc' := 47) hX dX1_copyOf_45 (by decide) rfl rfl ?_
        have loop2 : ∀ (g : Nat) (j : Int) (v : Wd) (x6 : Nat × Int), 0 ≤ j → j ≤ c → TF E w v l0 i c h → RF E w v l32 j (h i) → ¬ LSt v l0 i l32 → IT E v r9 T (i + 1) → IT E v r42 (el w T i) j → Gr NoP w v → c < j + g → GG X (10 * (7 - i).toNat + 1 + (7 - j).toNat) (90 * (7 - i).toNat + 10 + 10 * (7 - j).toNat) v 47 [(1, T), (1, l0), (1, r9), (1, el w T i), (1, l32), (1, r42), x6] [] := by
          intro g
          induction g with
          | zero => intro j v x6 _ _ _ _ _ _ _ _ hg; exact absurd hg (by omega)
          | succ g ih2 =>
            intro j v x6 j0 j1 hA hR hne hI hJ hG hg
            have hOv := hO.nop hG
            have hrs := H.out hG hO i0 (show i < r by omega)
            have hTv := (H.nop hO hG).1.1.1.2.1
            refine g_aload (pc' := 49) hX dX1_copyOf_47 rfl rfl ?_
            refine gF0E0 (pc' := 54) hX dX1_copyOf_49 ml_X1_108_J19 gc_J19 (nn_b hJ.1.1) hJ.1.2 (c_j_hasNext hrs.2.1 (by omega) hJ ⟨j0, j1⟩) (Nat.le_of_ble_eq_true rfl) (by decide) rfl ?_
            refine g_if_eq (pc' := 57) (tgt := 80) hX dX1_copyOf_54 (by decide) rfl (by omega) (fun h54 => ?_) (fun h54 => ?_)
            · skip
              refine g_aload_n (pc' := 81) hX dX1_copyOf_80 rfl rfl ?_
              refine g_aload (pc' := 83) hX dX1_copyOf_81 rfl rfl ?_
              refine gV1I (pc' := 86) hX dX1_copyOf_83 ml_X1_100 gc_J2 hA.1.1.h0 hA.1.1.1.2.1 (c_j_add hOv hA.1.1 (by omega) (okr_k hR.1.1.2.1 (by omega))) (Nat.le_of_ble_eq_true rfl) (by decide) (by omega) rfl (fun r83 w83 q83 => ?_)
              obtain ⟨rfl, hAd⟩ := q83
              rw [show j = c by omega] at hR
              have nT : T ≠ l0 := fun z => by have := (hA.2 l0 (Or.inl rfl)).1; rw [← z, hT7] at this; omega
              have hI := hI.ap hA.1.1 hOv nT hTv hAd.2.1
              obtain ⟨hA, hG, -⟩ := hA.push hOv hG hR (fun _ _ _ => rfl) hne hAd i0
              generalize hu4 : w83 = u4 at *
              refine g_pop (pc' := 87) hX dX1_copyOf_86 (vI_cat _) rfl ?_
              refine g_goto (tgt := 13) hX dX1_copyOf_87 (by decide) ?_
              exact GG_less (ih (i + 1) u4 _ _ _ _ (by omega) (by omega) hA hI hG (by omega)) (by omega) (by omega)
            · skip
              refine g_aload (pc' := 59) hX dX1_copyOf_57 rfl rfl ?_
              refine gF0EA0 (pc' := 64) hX dX1_copyOf_59 ml_X1_114_J19 gc_J19 (nn_b hJ.1.1) hJ.1.2 (c_j_next hrs.2.1 hJ (by omega)) (Nat.le_of_ble_eq_true rfl) (by decide) rfl ?_
              rw [hrs.2.2 j j0 (by omega)]
              obtain ⟨hJ2, hGi2⟩ := hJ.nx hrs.2.1.1.2.1
              have hA2' := hA.itr hJ hOv hGi2
              have hR2' := hR.itr hJ hOv hGi2
              have hne2 : ¬ LSt (upw (upw v r42 0 (j + 1)) r42 1 j) l0 i l32 := fun z => hne ((hA2'.2 l32).mp z)
              have hI2' := hI.gr hGi2 (fun _ z => hit z) (fun z => by have h1 := hJ.1.2; rw [← z, hTv] at h1; omega) (by rw [hTv]; decide)
              have hG2' : Gr NoP w (upw (upw v r42 0 (j + 1)) r42 1 j) := hG.trN hGi2 (fun a i hk' z => hk' (by rw [z]; exact hkj))
              obtain ⟨hbx0, hlt⟩ := H.2.2.1 i j i0 (by omega) j0 (by omega)
              have hbx := hbx0.gr hG2' id
              generalize upw (upw v r42 0 (j + 1)) r42 1 j = v2 at *
              have hO2' := hO.nop hG2'
              have hTv2 := (H.nop hO hG2').1.1.1.2.1
              have hrs2 := (H.out hG2' hO i0 (show i < r by omega)).2.1
              refine g_cast (pc' := 67) hX dX1_copyOf_64 gc_J4 q475 hbx.1 hbx.2.1 rfl ?_
              refine g_astore_6 (pc' := 69) hX dX1_copyOf_67 (by decide) rfl rfl ?_
              refine g_aload (pc' := 71) hX dX1_copyOf_69 rfl rfl ?_
              refine g_aload (pc' := 73) hX dX1_copyOf_71 rfl rfl ?_
              refine gV1I (pc' := 76) hX dX1_copyOf_73 ml_X1_100 gc_J2 hR2'.1.h0 hR2'.1.1.2.1 (c_j_add hO2' hR2'.1 (by omega) (okr_k hbx.2.1 (by omega))) (Nat.le_of_ble_eq_true rfl) (by decide) (by omega) rfl (fun r73 w73 q73 => ?_)
              obtain ⟨rfl, hAd⟩ := q73
              have hlw : kdw w l32 = 0 := hR2'.2.1.1
              have nT : T ≠ l32 := fun z => by rw [z] at hT7; omega
              have nR : el w T i ≠ l32 := fun z => by have := (H.2.1 i i0 (by omega)).1.1.2.1; rw [z] at this; omega
              have hI := hI2'.ap hR2'.1 hO2' nT hTv2 hAd.2.1
              have hJ := hJ2.ap hR2'.1 hO2' nR hrs2.1.2.1 hAd.2.1
              obtain ⟨hA, hne⟩ := hA2'.1.row hO2' hR2'.1 hne2 hAd
              obtain ⟨hR, hG, -⟩ := hR2'.add hO2' hG2' hAd ⟨hbx, hlt⟩
              refine g_pop (pc' := 77) hX dX1_copyOf_76 (vI_cat _) rfl ?_
              refine g_goto (tgt := 47) hX dX1_copyOf_77 (by decide) ?_
              exact GG_less (ih2 (j + 1) w73 _ (by omega) (by omega) hA hR hne hI hJ hG (by omega)) (by omega) (by omega)
        exact GG_less (loop2 9 0 w42 x6 (by omega) (by omega) hA4.1 hR4 hne4 hI4 hJ hG4 (by omega)) (by omega) (by omega)
  exact GG_less (loop 9 0 w9 _ _ _ _ (by omega) (by omega) hA hI hG (by omega)) (by omega) (by omega)

theorem c_x_swapRows (hH : XX E xo b n m h sn sm sh e w) (br : -2147483648 ≤ r ∧ r ≤ 2147483647) (bc : -2147483648 ≤ c ∧ c ≤ 2147483647)  : Call E mX1_swapRows 8 3 18 [vR xo, vI r, vI c] w (qC (if 0 ≤ r ∧ r ≤ n - 1 ∧ 0 ≤ c ∧ c ≤ n - 1 then 0 else 1) (rS n m (fun x y => if y < m then (if x = r then h c y else if x = c then h r y else h x y) else h x y) r) (fun w' => XX E xo b n m (fun x y => if y < m then (if x = r then h c y else if x = c then h r y else h x y) else h x y) sn sm sh e.off w' ∧ Gr (fun a _ => ZX xo b w a) w w') w) := by
  refine call_of (av := [(1, xo), (0, r), (0, c)]) (by decide +kernel) rfl (Nat.le_of_ble_eq_true rfl) ?_
  intro X hX hF hname
  show GG X 3 18 w 0 [(1, xo), (0, r), (0, c), (9, 0), (9, 0), (9, 0)] []
  have hb := hH.2.2.1.1.2
  have hT1 := hH.2.2.1.2.1.1
  refine g_aload_n (pc' := 1) hX dX1_swapRows_0 rfl rfl ?_
  refine g_iload_n (pc' := 2) hX dX1_swapRows_1 rfl rfl ?_
  refine gV1E0 (pc' := 5) hX dX1_swapRows_2 ml_X1_169 gc_X1 hH.1.h0 hH.1.hk (c_k_isRow hH.1 hH.2.2.1.1.1.1 (by omega) (by omega)) (Nat.le_of_ble_eq_true rfl) (by decide) rfl ?_
  refine g_if_eq (pc' := 8) (tgt := 20) hX dX1_swapRows_5 (by decide) rfl (by omega) (fun h5 => ?_) (fun h5 => ?_)
  · skip
    refine g_iconst (pc' := 21) hX dX1_swapRows_20 rfl ?_
    refine gS1UX (pc' := 24) hX dX1_swapRows_21 ml_X1_176 (c_k_needPlace (by omega)) (Nat.le_of_ble_eq_true rfl) (by decide) ⟨by omega, by omega⟩ rfl (fun w2 q => absurd q.1 (by decide)) (fun k2 w2 hk0 hq => ?_)
    obtain ⟨rfl, hz21, hG21⟩ := hq
    exact g_outX hX hF hk0 ⟨by (repeat' split) <;> omega, hG21⟩
  · skip
    refine g_aload_n (pc' := 9) hX dX1_swapRows_8 rfl rfl ?_
    refine g_iload_n (pc' := 10) hX dX1_swapRows_9 rfl rfl ?_
    refine gV1E0 (pc' := 13) hX dX1_swapRows_10 ml_X1_169 gc_X1 hH.1.h0 hH.1.hk (c_k_isRow hH.1 hH.2.2.1.1.1.1 (by omega) (by omega)) (Nat.le_of_ble_eq_true rfl) (by decide) rfl ?_
    refine g_if_eq (pc' := 16) (tgt := 20) hX dX1_swapRows_13 (by decide) rfl (by omega) (fun h13 => ?_) (fun h13 => ?_)
    · skip
      refine g_iconst (pc' := 21) hX dX1_swapRows_20 rfl ?_
      refine gS1UX (pc' := 24) hX dX1_swapRows_21 ml_X1_176 (c_k_needPlace (by omega)) (Nat.le_of_ble_eq_true rfl) (by decide) ⟨by omega, by omega⟩ rfl (fun w2 q => absurd q.1 (by decide)) (fun k2 w2 hk0 hq => ?_)
      obtain ⟨rfl, hz21, hG21⟩ := hq
      exact g_outX hX hF hk0 ⟨by (repeat' split) <;> omega, hG21⟩
    · skip
      refine g_iconst (pc' := 17) hX dX1_swapRows_16 rfl ?_
      refine g_goto (tgt := 21) hX dX1_swapRows_17 (by decide) ?_
      refine gS1UX (pc' := 24) hX dX1_swapRows_21 ml_X1_176 (c_k_needPlace (by omega)) (Nat.le_of_ble_eq_true rfl) (by decide) ⟨by omega, by omega⟩ rfl (fun w21 q21 => ?_) (fun k2 w2 hk0 hq => absurd hq.2.1 (by decide))
      obtain ⟨-, hw21⟩ := q21
      rw [hw21]
      have c78 : ∀ (u : Wd) (x3 x4 x5 : Nat × Int), YY E xo b n m (fun x y => if y < m then (if x = r then h c y else if x = c then h r y else h x y) else h x y) sn sm sh n (tC m h) e u → Gr (fun a _ => ZX xo b w a) w u → GG X 1 4 u 78 [(1, xo), (0, r), (0, c), x3, x4, x5] [] := by
        intro u x3 x4 x5 hY hGz
        refine g_aload_n (pc' := 79) hX dX1_swapRows_78 rfl rfl ?_
        refine gV0U0 (pc' := 82) hX dX1_swapRows_79 ml_X1_166 gc_X1 hY.1.h0 hY.1.hk (c_k_cancel hY.1 hY.2.2.2.2) (Nat.le_of_ble_eq_true rfl) (by decide) rfl (fun w79 q79 => ?_)
        have hF2 := hY.can hGz q79.1 q79.2
        refine g_aload_n (pc' := 83) hX dX1_swapRows_82 rfl rfl ?_
        refine g_iload_n (pc' := 84) hX dX1_swapRows_83 rfl rfl ?_
        refine gV1I (pc' := 87) hX dX1_swapRows_84 ml_X1_212 gc_X1 hF2.1.1.h0 hF2.1.1.hk (c_k_rowSum hF2.1 (by omega)) (Nat.le_of_ble_eq_true rfl) (by decide) (by omega) rfl (fun r84 w84 q84 => ?_)
        obtain ⟨rfl, hG84⟩ := q84
        exact g_retIX hX hF dX1_swapRows_87 ⟨by (repeat' split) <;> omega, rfl, hF2.1.nop hG84, GX.nop hF2.2 hG84⟩
      refine g_iload_n (pc' := 25) hX dX1_swapRows_24 rfl rfl ?_
      refine g_iload_n (pc' := 26) hX dX1_swapRows_25 rfl rfl ?_
      refine g_icmp_eq (pc' := 29) (tgt := 78) hX dX1_swapRows_26 (by decide) rfl (by omega) (by omega) (fun h26 => ?_) (fun h26 => ?_)
      · skip
        first
          | exact GG_less (c78 w _ _ _ (hH.yy.cg (fun x y x0 x1 y0 y1 => by (repeat' split) <;> first | rfl | (congr 1; omega) | omega)) Gr.rf) (by omega) (by omega)
          | exact GG_less (c78 u3 _ _ _ hY hGz) (by omega) (by omega)
      · skip
        refine g_iload_n (pc' := 30) hX dX1_swapRows_29 rfl rfl ?_
        refine g_iload_n (pc' := 31) hX dX1_swapRows_30 rfl rfl ?_
        refine g_mmin (pc' := 34) hX dX1_swapRows_31 q566 q211 q64 q212 (by omega) (by omega) (by omega) (Nat.le_of_ble_eq_true rfl) rfl ?_
        obtain ⟨lo, hlo⟩ : ∃ lo, lo = (if c < r then c else r) := ⟨_, rfl⟩
        rw [← hlo]
        have hTa := hT1.1
        have hok1 : ∀ k : Int, 0 ≤ k → k < n → okr w (el w (rdw w xo 2) k) := fun k k0 k1 => okr_k (hT1.2.1 k k0 k1).1.1.2.1 (by omega)
        refine g_istore_n_3 (pc' := 35) hX dX1_swapRows_34 (by decide) rfl rfl ?_
        refine g_iload_n (pc' := 36) hX dX1_swapRows_35 rfl rfl ?_
        refine g_iload_n (pc' := 37) hX dX1_swapRows_36 rfl rfl ?_
        refine g_mmax (pc' := 40) hX dX1_swapRows_37 q1136 q173 q64 q174 (by omega) (by omega) (by omega) (Nat.le_of_ble_eq_true rfl) rfl ?_
        obtain ⟨hi, hhi⟩ : ∃ hi, hi = (if r < c then c else r) := ⟨_, rfl⟩
        rw [← hhi]
        have hlh : 0 ≤ lo ∧ lo < hi ∧ hi < n := by rw [hlo, hhi]; (repeat' split) <;> omega
        refine g_istore_4 (pc' := 42) hX dX1_swapRows_40 (by decide) rfl rfl ?_
        refine g_aload_n (pc' := 43) hX dX1_swapRows_42 rfl rfl ?_
        refine gf_X1_20 (pc' := 46) hX dX1_swapRows_43 hH.1.h0 hH.1.hk rfl ?_
        refine g_iload (pc' := 48) hX dX1_swapRows_46 rfl rfl ?_
        refine gV1A (pc' := 51) hX dX1_swapRows_48 ml_X1_221 gc_J2 hT1.1.h0 hT1.1.1.2.1 (c_j_remove hT1.1 (by omega) hok1) (Nat.le_of_ble_eq_true rfl) (by decide) (by omega) rfl (fun r48 w48 q48 => ?_)
        obtain ⟨rfl, m1, m2, m3, m4⟩ := q48
        have hkH : kdw w48 (el w (rdw w xo 2) hi) = 7 := by
          have h1 := (hT1.2.1 hi (by omega) (by omega)).1.1.2.1
          rw [m3.kd (by omega)]; exact h1
        have hx48 : rdw w48 xo 2 = rdw w xo 2 := m3.rd (by rw [hH.1.hk]; decide) (fun z => by
          rcases z with z | z
          · have h1 := hT1.1.1.2.1; rw [← z, hH.1.hk] at h1; omega
          · have h1 := (hT1.1.arr (by omega)).2.1; rw [← z.1, hH.1.hk] at h1; omega)
        have hxk48 : kdw w48 xo = 1 := (m3.kd (by rw [hH.1.hk]; decide)).trans hH.1.hk
        have hO48 := hH.2.1.gr m3 (fun a i z => aP_b hT1.1 z)
        refine g_cast (pc' := 54) hX dX1_swapRows_51 gc_J2 q104 (hT1.2.1 hi (by omega) (by omega)).1.h0 hkH rfl ?_
        refine g_astore_5 (pc' := 56) hX dX1_swapRows_54 (by decide) rfl rfl ?_
        refine g_aload_n (pc' := 57) hX dX1_swapRows_56 rfl rfl ?_
        refine gf_X1_20 (pc' := 60) hX dX1_swapRows_57 hH.1.h0 hxk48 rfl ?_
        rw [hx48]
        refine g_iload (pc' := 62) hX dX1_swapRows_60 rfl rfl ?_
        refine g_aload_n (pc' := 63) hX dX1_swapRows_62 rfl rfl ?_
        refine gf_X1_20 (pc' := 66) hX dX1_swapRows_63 hH.1.h0 hxk48 rfl ?_
        rw [hx48]
        refine g_iload_n (pc' := 67) hX dX1_swapRows_66 rfl rfl ?_
        refine g_aload (pc' := 69) hX dX1_swapRows_67 rfl rfl ?_
        refine gV2EA0 (pc' := 72) hX dX1_swapRows_69 ml_X1_181 gc_J2 m1.h0 m1.1.2.1 (c_j_set m1 (by omega) (okr_k hkH (by omega))) (Nat.le_of_ble_eq_true rfl) (by decide) rfl ?_
        have hm1a := m1.arr (by omega)
        have e4 := m4 lo (by omega) (by omega)
        rw [if_pos (by omega)] at e4
        rw [e4]
        have hGs : Gr (fun a k => a = rdw w48 (rdw w xo 2) 1 ∧ k = lo) w48 (upw w48 (rdw w48 (rdw w xo 2) 1) lo (el w (rdw w xo 2) hi)) := Gr.rf.up ⟨rfl, rfl⟩
        have hT0 := hT1.1.h0
        have hn1 : rdw w xo 2 ≠ rdw w48 (rdw w xo 2) 1 := kd_ne m1.1.2.1 hm1a.2.1 (by omega)
        have s1 := m1.gr hGs (fun z => hn1 z.1) (fun z => hn1 z.1) hO48
        have s2 : ∀ k : Int, 0 ≤ k → k < n - 1 → el (upw w48 (rdw w48 (rdw w xo 2) 1) lo (el w (rdw w xo 2) hi)) (rdw w xo 2) k = if k = lo then el w (rdw w xo 2) hi else if k < hi then el w (rdw w xo 2) k else el w (rdw w xo 2) (k + 1) := fun k k0 k1 => by
          show rdw _ (rdw (upw w48 (rdw w48 (rdw w xo 2) 1) lo (el w (rdw w xo 2) hi)) (rdw w xo 2) 1) k = _
          rw [s1.2]
          by_cases hk : k = lo
          · rw [if_pos hk, rd_up_eq ⟨rfl, hk⟩]
          · rw [if_neg hk, rd_up_ne (fun z => hk z.2)]
            exact m4 k k0 k1
        generalize hu2 : upw w48 (rdw w48 (rdw w xo 2) 1) lo (el w (rdw w xo 2) hi) = u2 at *
        have hG2 : Gr (fun a _ => aP E w (rdw w xo 2) a) w u2 := m3.tr (hGs.wk (fun a k z => Or.inr ⟨by rw [z.1]; exact m2, by rw [z.1]; exact hm1a.1⟩))
        have hkL : kdw u2 (el w (rdw w xo 2) lo) = 7 := by
          have h1 := (hT1.2.1 lo (by omega) (by omega)).1.1.2.1
          rw [hG2.kd (by omega)]; exact h1
        have hok2 : ∀ k : Int, 0 ≤ k → k < n - 1 → okr u2 (el u2 (rdw w xo 2) k) := fun k k0 k1 => by
          rw [s2 k k0 k1]
          have hkk : ∀ q : Int, 0 ≤ q → q < n → okr u2 (el w (rdw w xo 2) q) := fun q q0 q1 => okr_k (k := 7) (by have h1 := (hT1.2.1 q q0 q1).1.1.2.1; rw [hG2.kd (by omega)]; exact h1) (by omega)
          (repeat' split) <;> exact hkk _ (by omega) (by omega)
        refine g_cast (pc' := 75) hX dX1_swapRows_72 gc_J2 q104 (hT1.2.1 lo (by omega) (by omega)).1.h0 hkL rfl ?_
        refine gV2U0 (pc' := 78) hX dX1_swapRows_75 ml_X1_224 gc_J2 s1.1.h0 s1.1.1.2.1 (c_j_insert s1.1 (s1.1.arr (by omega)) (by omega) (by omega) (okr_k hkL (by omega)) hok2) (Nat.le_of_ble_eq_true rfl) (by decide) rfl (fun w75 q75 => ?_)
        obtain ⟨p1, p2, p3, p4⟩ := q75
        rw [show n - 1 + 1 = n by omega] at p1 p4
        have hG3 : Gr (fun a _ => aP E w (rdw w xo 2) a) w w75 := hG2.tr (p3.wk (fun a k z => by
          rcases z with z | z
          · exact Or.inl z
          · exact Or.inr ⟨by rw [z.1, s1.2, m2], z.2⟩))
        obtain ⟨hY, hGz⟩ := hH.yy.perm (g := (fun k => if k = r then c else if k = c then r else k)) p1 hG3 (fun k k0 k1 => by (repeat' split) <;> omega) (fun i j i0 i1 j0 j1 => by (repeat' split) <;> omega) (fun k k0 k1 => by
          rw [p4 k k0 k1]
          by_cases h1 : k < hi
          · rw [if_pos h1, s2 k k0 (by omega)]
            by_cases h2 : k = lo
            · rw [if_pos h2]; congr 1
              rw [h2, hlo, hhi]; (repeat' split) <;> omega
            · rw [if_neg h2, if_pos h1]; congr 1
              rw [hlo] at h2; rw [hhi] at h1
              revert h1 h2
              (repeat' split) <;> omega
          · rw [if_neg h1]
            by_cases h2 : k = hi
            · rw [if_pos h2]; congr 1
              rw [h2, hlo, hhi]; (repeat' split) <;> omega
            · rw [if_neg h2, s2 (k - 1) (by omega) (by omega), if_neg (by omega), if_neg (by omega)]; congr 1
              rw [hhi] at h1 h2
              revert h1 h2
              (repeat' split) <;> omega)
        have hY := hY.cg (h' := fun x y => if y < m then (if x = r then h c y else if x = c then h r y else h x y) else h x y) (fun x y x0 x1 y0 y1 => by (repeat' split) <;> first | rfl | omega)
        generalize hu3 : w75 = u3 at *
        first
          | exact GG_less (c78 w _ _ _ (hH.yy.cg (fun x y x0 x1 y0 y1 => by (repeat' split) <;> first | rfl | (congr 1; omega) | omega)) Gr.rf) (by omega) (by omega)
          | exact GG_less (c78 u3 _ _ _ hY hGz) (by omega) (by omega)

end K8S
