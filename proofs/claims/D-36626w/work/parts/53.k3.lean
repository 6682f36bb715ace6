/-! THE COMPONENT: tables made, copied, read through (by gen/spec_k3.py) -/
set_option maxRecDepth 100000
set_option maxHeartbeats 4000000
/-- a list that is new to w0, as it stands in u -/
def FL (E : Ev) (w0 u : Wd) (l : Int) : Prop := kdw w0 l = 0 ∧ (rdw u l 1 = (eC E : Int) ∨ kdw w0 (rdw u l 1) = 0)
/-- a table in the making, new to w0 -/
def TF (E : Ev) (w0 u : Wd) (T r c : Int) (h : Int → Int → Int) : Prop := TB E u T r c h ∧ ∀ l, LSt u T r l → FL E w0 u l
/-- a row in the making -/
def RF (E : Ev) (w0 u : Wd) (l j : Int) (f : Int → Int) : Prop := AL E u l j ∧ FL E w0 u l ∧ ∀ k : Int, 0 ≤ k → k < j → bx u (el u l k) (f k) ∧ el u l k < eB E
section K3S
variable {E : Ev} {w w0 u u' : Wd} {P : Int → Int → Prop} {T r c n m sn sm l i j k v z xo b it x : Int} {h sh : Int → Int → Int} {f : Int → Int} {e : En}
theorem Gr.new0 (hG : Gr P w u) (hk : kdw u l = 0) : kdw w l = 0 := Classical.byContradiction (fun z => by have := hG.kd z; omega)
theorem FL.gr (H : FL E w0 u l) (he : rdw u' l 1 = rdw u l 1) : FL E w0 u' l := by unfold FL; rw [he]; exact H
theorem FL.add (H : FL E w0 u l) (hO : OW E u) (hG : Gr NoP w0 u) (hA : addP E u l n v u') : Gr NoP w0 u' ∧ FL E w0 u' l := by
  refine ⟨hG.trN hA.2.1 (fun a i hk z => ?_), H.1, ?_⟩
  · rcases z with z | ⟨z, z2⟩
    · exact hk (by rw [z]; exact H.1)
    · rcases H.2 with y | y
      · have := hO.1.1.1; omega
      · exact hk (by rw [z]; exact y)
  · rcases hA.2.2.2.2 with y | y
    · rw [y]; exact H.2
    · exact Or.inr (hG.new0 y)
theorem RF.new (hG : Gr NoP w0 u) (hL : AL E u' l 0) (he : rdw u' l 1 = (eC E : Int)) (hk : kdw u l = 0) : RF E w0 u' l 0 f := ⟨hL, ⟨hG.new0 hk, Or.inl he⟩, fun k k0 k1 => absurd k1 (by omega)⟩
theorem TF.new (hG : Gr NoP w0 u) (hL : AL E u' T 0) (he : rdw u' T 1 = (eC E : Int)) (hk : kdw u T = 0) : TF E w0 u' T 0 c h :=
  ⟨⟨hL, fun i i0 i1 => absurd i1 (by omega), fun i j i0 i1 => absurd i1 (by omega), fun i j i0 i1 => absurd i1 (by omega)⟩, fun l hl => by
    rcases hl with z | ⟨i, i0, i1, -⟩
    · rw [z]; exact ⟨hG.new0 hk, Or.inl he⟩
    · omega⟩
theorem TF.gr (H : TF E w0 u T r c h) (hG : Gr P u u') (hO : OW E u) (h1 : ∀ a i, P a i → (eB E : Int) ≤ a) (h2 : ∀ l i, LSt u T r l → ¬ P l i ∧ ¬ P (rdw u l 1) i) : TF E w0 u' T r c h ∧ ∀ l, LSt u' T r l ↔ LSt u T r l := by
  have g := H.1.gr hG hO h1 h2
  have hl : ∀ l, LSt u' T r l ↔ LSt u T r l := fun l => LSt.cg rfl (fun i i0 i1 => (g.2.2 i i0 i1).1)
  refine ⟨⟨g.1, fun l hh => ?_⟩, hl⟩
  have h3 := (hl l).mp hh
  refine (H.2 l h3).gr ?_
  rcases h3 with z | ⟨i, i0, i1, z⟩
  · rw [z]; exact g.2.1
  · rw [← z]; exact (g.2.2 i i0 i1).2.1
theorem TF.nop (H : TF E w0 u T r c h) (hG : Gr NoP u u') (hO : OW E u) : TF E w0 u' T r c h ∧ ∀ l, LSt u' T r l ↔ LSt u T r l := H.gr hG hO (fun _ _ z => z.elim) (fun _ _ _ => ⟨id, id⟩)
theorem RF.gr (H : RF E w0 u l j f) (hG : Gr P u u') (hO : OW E u) (h1 : ∀ a i, P a i → (eB E : Int) ≤ a) (h2 : ∀ i, ¬ P l i ∧ ¬ P (rdw u l 1) i) : RF E w0 u' l j f := by
  have g := H.1.gr hG (h2 1).1 (h2 2).1 hO
  refine ⟨g.1, H.2.1.gr g.2, fun k k0 k1 => ?_⟩
  have h3 := H.2.2 k k0 k1
  rw [H.1.els hG (h2 1).1 ⟨k0, k1⟩ (h2 k).2]
  exact ⟨h3.1.gr hG (fun z => by have := h1 _ _ z; omega), h3.2⟩
theorem RF.nop (H : RF E w0 u l j f) (hG : Gr NoP u u') (hO : OW E u) : RF E w0 u' l j f := H.gr hG hO (fun _ _ z => z.elim) (fun _ => ⟨id, id⟩)
theorem RF.add (H : RF E w0 u l j f) (hO : OW E u) (hG : Gr NoP w0 u) (hA : addP E u l j v u') (hv : bx u v (f j) ∧ v < eB E) : RF E w0 u' l (j + 1) f ∧ Gr NoP w0 u' ∧ OW E u' := by
  have g := H.2.1.add hO hG hA
  have hP : ∀ a, aP E u l a → (eB E : Int) ≤ a := fun a z => aP_b H.1 z
  refine ⟨⟨hA.1, g.2, fun k k0 k1 => ?_⟩, g.1, hO.gr hA.2.1 (fun a i z => hP a z)⟩
  by_cases hk : k = j
  · rw [hk, hA.2.2.2.1]
    exact ⟨hv.1.gr hA.2.1 (fun z => by have := hP _ z; omega), hv.2⟩
  · have h3 := H.2.2 k k0 (by omega)
    rw [hA.2.2.1 k k0 (by omega)]
    exact ⟨h3.1.gr hA.2.1 (fun z => by have := hP _ z; omega), h3.2⟩
/-- a row is filled beside a table -/
theorem TF.row (H : TF E w0 u T r c h) (hO : OW E u) (hl : AL E u l j) (hne : ¬ LSt u T r l) (hA : addP E u l j v u') : TF E w0 u' T r c h ∧ ¬ LSt u' T r l := by
  have g := H.gr hA.2.1 hO (fun a i z => aP_b hl z) (fun l' i hl' => by
    obtain ⟨k, hk⟩ := H.1.al hl'
    exact apd hO hl hk (fun z => hne (by rw [← z]; exact hl')))
  exact ⟨g.1, fun z => hne ((g.2 l).mp z)⟩
/-- a row is put behind -/
theorem TF.push (H : TF E w0 u T i c h) (hO : OW E u) (hG : Gr NoP w0 u) (hR : RF E w0 u l c f) (hf : ∀ j, 0 ≤ j → j < c → f j = h i j) (hne : ¬ LSt u T i l) (hA : addP E u T i l u') (hi : 0 ≤ i) : TF E w0 u' T (i + 1) c h ∧ Gr NoP w0 u' ∧ OW E u' := by
  have hP : ∀ a, aP E u T a → (eB E : Int) ≤ a := fun a z => aP_b H.1.1 z
  have g := (H.2 T (Or.inl rfl)).add hO hG hA
  have p := H.1.push hO hR.1 hne (fun j j0 j1 => by rw [← hf j j0 j1]; exact hR.2.2 j j0 j1) hA hi
  refine ⟨⟨p.1, fun y hy => ?_⟩, g.1, hO.gr hA.2.1 (fun a i z => hP a z)⟩
  by_cases hyT : y = T
  · rw [hyT]; exact g.2
  · have hfl : FL E w0 u y ∧ ∃ q, AL E u y q := by
      rcases (p.2 y).mp hy with z | z
      · exact ⟨H.2 y z, H.1.al z⟩
      · rw [z]; exact ⟨hR.2.1, _, hR.1⟩
    obtain ⟨f1, q, hq⟩ := hfl
    have h1 := apd hO H.1.1 hq hyT
    exact f1.gr (hq.gr hA.2.1 h1.1 h1.1 hO).2
theorem not_ls_new (H : TB E u T r c h) (hk : kdw u l = 0) : ¬ LSt u T r l := fun z => by have := LSt.kd H z; omega
/-! iterators in loops -/
theorem IT.gr (H : IT E u it l c) (hG : Gr P u u') (h1 : ∀ i, ¬ P it i) (h2 : ¬ P l 0) (hl : kdw u l ≠ 0) : IT E u' it l c := by
  have hk : kdw u it ≠ 0 := by rw [H.1.2]; decide
  exact ⟨⟨H.1.1, (hG.kd hk).trans H.1.2⟩, (hG.rd hk (h1 3)).trans H.2.1, ((hG.rd hk (h1 2)).trans H.2.2.1).trans (hG.rd hl h2).symm, (hG.rd hk (h1 0)).trans H.2.2.2⟩
theorem IT.nop (H : IT E u it l c) (hG : Gr NoP u u') (hl : kdw u l ≠ 0) : IT E u' it l c := H.gr hG (fun _ => id) id hl
theorem IT.nx (H : IT E u it l c) (hl : kdw u l = 7) : IT E (upw (upw u it 0 (c + 1)) it 1 c) it l (c + 1) ∧ Gr (fun a _ => a = it) u (upw (upw u it 0 (c + 1)) it 1 c) := by
  have hne : l ≠ it := kd_ne hl H.1.2 (by decide)
  refine ⟨⟨H.1, ?_, ?_, ?_⟩, ((Gr.rf (P := fun a _ => a = it) (w := u)).up (a := it) (i := 0) (x := c + 1) rfl).up (a := it) (i := 1) (x := c) rfl⟩
  · rw [rd_up_ne (by omega), rd_up_ne (by omega)]; exact H.2.1
  · rw [rd_up_ne (by omega), rd_up_ne (by omega), rd_up_ne (by omega), rd_up_ne (by omega)]; exact H.2.2.1
  · rw [rd_up_ne (by omega), rd_up_eq ⟨rfl, rfl⟩]
/-- writes of an iterator, beside lists -/
theorem it_ap (hT : kdw u it = 8) (hO : OW E u) (hl : AL E u l n) : l ≠ it ∧ rdw u l 1 ≠ it := by
  refine ⟨kd_ne hl.1.2.1 hT (by decide), fun z => ?_⟩
  rcases hl.2 with q | q
  · have := hO.1.1.2.1; rw [← q.1, z] at this; omega
  · have := q.2.1; rw [z] at this; omega
theorem TF.itr (H : TF E w0 u T r c h) (hI : IT E u it l k) (hO : OW E u) (hG : Gr (fun a _ => a = it) u u') : TF E w0 u' T r c h ∧ ∀ l, LSt u' T r l ↔ LSt u T r l :=
  H.gr hG hO (fun a i z => by rw [z]; exact hI.1.1) (fun l i hl => by
    obtain ⟨q, hq⟩ := H.1.al hl
    exact it_ap hI.1.2 hO hq)
theorem RF.itr {l2 : Int} (H : RF E w0 u l j f) (hI : IT E u it l2 k) (hO : OW E u) (hG : Gr (fun a _ => a = it) u u') : RF E w0 u' l j f :=
  H.gr hG hO (fun a i z => by rw [z]; exact hI.1.1) (fun i => it_ap hI.1.2 hO H.1)
theorem TB.out (H : TB E w T r c h) (hG : Gr NoP w u) (hO : OW E w) {i : Int} (i0 : 0 ≤ i) (i1 : i < r) : el u T i = el w T i ∧ AL E u (el w T i) c ∧ (∀ j : Int, 0 ≤ j → j < c → el u (el w T i) j = el w (el w T i) j) := by
  have g := H.nop hO hG
  have := (g.1.2.1 i i0 i1).1
  rw [(g.2.2 i i0 i1).1] at this
  exact ⟨(g.2.2 i i0 i1).1, this, (g.2.2 i i0 i1).2.2⟩
/-- sums over fewer columns -/
theorem sm_tail {f g : Int → Int} {a : Nat} : ∀ k : Nat, (∀ i : Int, 0 ≤ i → i < a → f i = g i) → (∀ i : Int, a ≤ i → f i = 0) → sm' (a + k) f = sm' a g
  | 0, h, _ => sm_cg (k := a) h
  | k + 1, h, h2 => by
    show sm' (a + k) f + f ((a + k : Nat) : Int) = _
    rw [sm_tail k h h2, h2 _ (by omega)]; omega
def cv (v : Int) : Int := if v < 0 then 1000 else v
theorem rS_m (hb : 1 ≤ m ∧ m ≤ n) (r : Int) : rS n m h r = sm' m.toNat (fun j => cv (h r j)) := by
  unfold rS
  rw [show n.toNat = m.toNat + (n.toNat - m.toNat) by omega]
  refine sm_tail _ (fun i i0 i1 => ?_) (fun i i0 => ?_)
  · unfold tC cv; rw [if_neg (by omega)]
  · unfold tC; rw [if_pos (by omega)]
theorem c_k_zeros (hO : OW E w) (hr : 1 ≤ r ∧ r ≤ 7) (hc : 1 ≤ c ∧ c ≤ 7) : Call E mX1_zeros 5 81 723 [vI r, vI c] w (qA (fun T w' => TF E w w' T r c (fun _ _ => 0) ∧ Gr NoP w w' ∧ OW E w')) := by
  refine call_of (av := [(0, r), (0, c)]) (by decide +kernel) rfl (Nat.le_of_ble_eq_true rfl) ?_
  intro X hX hF hname
  show GG X 81 723 w 0 [(0, r), (0, c), (9, 0), (9, 0), (9, 0), (9, 0)] []
  refine g_newAL (pc' := 7) hX dX1_zeros_0 dX1_zeros_3 dX1_zeros_4 hO (by decide) (by omega) (by omega) (by decide) rfl (fun u0 l0 a0 e0 k0 G0 O0 => ?_)
  have hA0 : TF E w u0 l0 0 c (fun _ _ => 0) := TF.new Gr.rf a0 e0 k0
  refine g_astore_n_2 (pc' := 8) hX dX1_zeros_7 (by decide) rfl rfl ?_
  refine g_iconst (pc' := 9) hX dX1_zeros_8 rfl ?_
  refine g_istore_n_3 (pc' := 10) hX dX1_zeros_9 (by decide) rfl rfl ?_
  have loop : ∀ (f : Nat) (i : Int) (u : Wd) (x4 x5 : Nat × Int), 0 ≤ i → i ≤ r → TF E w u l0 i c (fun _ _ => 0) → Gr NoP w u → OW E u → (x4 = (9, 0) ∨ x4.1 = 1) → (x5 = (9, 0) ∨ x5.1 = 0) → r < i + f → GG X (10 * (8 - i).toNat) (90 * (8 - i).toNat) u 10 [(0, r), (0, c), (1, l0), (0, i), (9, 0), (9, 0)] [] := by
    intro f
    induction f with
    | zero => intro i u x4 x5 i0 i1 hA hG hO2 hx4 hx5 hf; exact absurd hf (by omega)
    | succ f ih =>
      intro i u x4 x5 i0 i1 hA hG hO2 hx4 hx5 hf
      refine g_iload_n (pc' := 11) hX dX1_zeros_10 rfl rfl ?_
      refine g_iload_n (pc' := 12) hX dX1_zeros_11 rfl rfl ?_
      refine g_icmp_ge (pc' := 15) (tgt := 62) hX dX1_zeros_12 (by decide) rfl (by omega) (by omega) (fun h12 => ?_) (fun h12 => ?_)
      · skip
        refine g_aload_n (pc' := 63) hX dX1_zeros_62 rfl rfl ?_
        exact g_retA hX hF rfl dX1_zeros_63 ⟨by rw [show i = r by omega] at hA; exact hA, hG, hO2⟩
      · skip
        refine g_newAL (pc' := 22) hX dX1_zeros_15 dX1_zeros_18 dX1_zeros_19 hO2 (by decide) (by omega) (by omega) (by decide) rfl (fun u15 l15 a15 e15 k15 G15 O15 => ?_)
        have hA1 := (hA.nop G15 hO2)
        have hR1 : RF E w u15 l15 0 (fun _ => 0) := RF.new hG a15 e15 k15
        have hG1 : Gr NoP w u15 := hG.tr G15
        have hne1 : ¬ LSt u15 l0 i l15 := fun z => not_ls_new hA.1 k15 ((hA1.2 l15).mp z)
        refine g_astore_4 (pc' := 24) hX dX1_zeros_22 (by decide) rfl rfl ?_
        refine g_iconst (pc' := 25) hX dX1_zeros_24 rfl ?_
        refine g_istore_5 (pc' := 27) hX dX1_zeros_25 (by decide) rfl rfl ?_
        have loop2 : ∀ (g : Nat) (j : Int) (v : Wd), 0 ≤ j → j ≤ c → TF E w v l0 i c (fun _ _ => 0) → RF E w v l15 j (fun _ => 0) → Gr NoP w v → OW E v → ¬ LSt v l0 i l15 → c < j + g → GG X (10 * (7 - i).toNat + 1 + (7 - j).toNat) (90 * (7 - i).toNat + 10 + 10 * (7 - j).toNat) v 27 [(0, r), (0, c), (1, l0), (0, i), (1, l15), (0, j)] [] := by
          intro g
          induction g with
          | zero => intro j v _ _ _ _ _ _ _ hg; exact absurd hg (by omega)
          | succ g ih2 =>
            intro j v j0 j1 hA hR hG hO2 hne hg
            refine g_iload (pc' := 29) hX dX1_zeros_27 rfl rfl ?_
            refine g_iload_n (pc' := 30) hX dX1_zeros_29 rfl rfl ?_
            refine g_icmp_ge (pc' := 33) (tgt := 49) hX dX1_zeros_30 (by decide) rfl (by omega) (by omega) (fun h30 => ?_) (fun h30 => ?_)
            · skip
              refine g_aload_n (pc' := 50) hX dX1_zeros_49 rfl rfl ?_
              refine g_aload (pc' := 52) hX dX1_zeros_50 rfl rfl ?_
              refine gV1I (pc' := 55) hX dX1_zeros_52 ml_X1_100 gc_J2 hA.1.1.h0 hA.1.1.1.2.1 (c_j_add hO2 hA.1.1 (by omega) (okr_k hR.1.1.2.1 (by omega))) (Nat.le_of_ble_eq_true rfl) (by decide) (by omega) rfl (fun r52 w52 q52 => ?_)
              obtain ⟨rfl, hAd⟩ := q52
              rw [show j = c by omega] at hR
              obtain ⟨hA, hG, hO2⟩ := hA.push hO2 hG hR (fun _ _ _ => rfl) hne hAd i0
              generalize hu3 : w52 = u3 at *
              refine g_pop (pc' := 56) hX dX1_zeros_55 (vI_cat _) rfl ?_
              refine g_iinc_3 (pc' := 59) hX dX1_zeros_56 (by decide) rfl rfl ?_
              refine g_goto (tgt := 10) hX dX1_zeros_59 (by decide) ?_
              exact GG_lv (GG_less (ih (i + 1) u3 (9, 0) (9, 0) (by omega) (by omega) hA hG hO2 (Or.inl rfl) (Or.inl rfl) (by omega)) (by omega) (by omega)) ⟨Or.inr rfl, Or.inr rfl, Or.inr rfl, Or.inr rfl, Or.inl rfl, Or.inl rfl, trivial⟩
            · skip
              refine g_aload (pc' := 35) hX dX1_zeros_33 rfl rfl ?_
              refine g_iconst (pc' := 36) hX dX1_zeros_35 rfl ?_
              refine gS1EA0 (pc' := 39) hX dX1_zeros_36 ml_X1_94 (c_j_valueOf (v := 0) hO2 (by omega)) (Nat.le_of_ble_eq_true rfl) (by decide) rfl ?_
              have hbx := hO2.bx (v := 0) (by omega)
              refine gV1I (pc' := 42) hX dX1_zeros_39 ml_X1_100 gc_J2 hR.1.h0 hR.1.1.2.1 (c_j_add hO2 hR.1 (by omega) (okr_k hbx.2.1 (by omega))) (Nat.le_of_ble_eq_true rfl) (by decide) (by omega) rfl (fun r39 w39 q39 => ?_)
              obtain ⟨rfl, hAd⟩ := q39
              have t1 := hA.row hO2 hR.1 hne hAd
              have t2 := hR.add hO2 hG hAd ⟨hbx, (hO2.2 (0 + 128) (by omega) (by omega)).2⟩
              obtain ⟨hA, hne⟩ := t1
              obtain ⟨hR, hG, hO2⟩ := t2
              refine g_pop (pc' := 43) hX dX1_zeros_42 (vI_cat _) rfl ?_
              refine g_iinc_5 (pc' := 46) hX dX1_zeros_43 (by decide) rfl rfl ?_
              refine g_goto (tgt := 27) hX dX1_zeros_46 (by decide) ?_
              exact GG_less (ih2 (j + 1) w39 (by omega) (by omega) hA hR hG hO2 hne (by omega)) (by omega) (by omega)
        exact GG_less (loop2 9 0 u15 (by omega) (by omega) hA1.1 hR1 hG1 O15 hne1 (by omega)) (by omega) (by omega)
  exact GG_less (loop 9 0 u0 (9, 0) (9, 0) (by omega) (by omega) hA0 G0 O0 (Or.inl rfl) (Or.inl rfl) (by omega)) (by omega) (by omega)

theorem c_k_rowSum (hH : XX E xo b n m h sn sm sh e w) (hr : 0 ≤ r ∧ r < n) : Call E mX1_rowSum 3 1 4 [vR xo, vI r] w (qI (fun z w' => z = rS n m h r ∧ Gr NoP w w')) := by
  refine call_of (av := [(1, xo), (0, r)]) (by decide +kernel) rfl (Nat.le_of_ble_eq_true rfl) ?_
  intro X hX hF hname
  show GG X 1 4 w 0 [(1, xo), (0, r), (9, 0), (9, 0), (9, 0)] []
  obtain ⟨hX0, hO, hT, hQ, hE⟩ := id hH
  obtain ⟨⟨⟨f0, f1, f3, f4⟩, nb, sb⟩, ⟨t1, t2, t3⟩, hb1, hb2⟩ := hT
  obtain ⟨R, hR⟩ : ∃ R, R = el w (rdw w xo 2) r := ⟨_, rfl⟩
  have hRl := (t1.2.1 r hr.1 hr.2).1
  rw [← hR] at hRl
  refine g_iconst (pc' := 1) hX dX1_rowSum_0 rfl ?_
  refine g_istore_n_2 (pc' := 2) hX dX1_rowSum_1 (by decide) rfl rfl ?_
  refine g_aload_n (pc' := 3) hX dX1_rowSum_2 rfl rfl ?_
  refine gf_X1_20 (pc' := 6) hX dX1_rowSum_3 hH.1.h0 hH.1.hk rfl ?_
  refine g_iload_n (pc' := 7) hX dX1_rowSum_6 rfl rfl ?_
  refine gV1EA0 (pc' := 10) hX dX1_rowSum_7 ml_X1_131 gc_J2 t1.1.h0 t1.1.1.2.1 (c_j_get t1.1 hr) (Nat.le_of_ble_eq_true rfl) (by decide) rfl ?_
  rw [← hR]
  refine g_cast (pc' := 13) hX dX1_rowSum_10 gc_J2 q104 hRl.h0 hRl.1.2.1 rfl ?_
  refine gV0A (pc' := 16) hX dX1_rowSum_13 ml_X1_104 gc_J2 hRl.h0 hRl.1.2.1 (c_j_iterator hO hRl) (Nat.le_of_ble_eq_true rfl) (by decide) (by omega) rfl (fun r13 w13 q13 => ?_)
  obtain ⟨hI, hk, hG⟩ := q13
  refine g_astore_n_3 (pc' := 17) hX dX1_rowSum_16 (by decide) rfl rfl ?_
  have loop : ∀ (f : Nat) (j : Int) (u : Wd) (x4 : Nat × Int), 0 ≤ j → j ≤ m → IT E u r13 R j → Gr NoP w u → m < j + f → GG X 0 0 u 17 [(1, xo), (0, r), (0, sm' j.toNat (fun k => cv (h r k))), (1, r13), x4] [] := by
    intro f
    induction f with
    | zero => intro j u x4 j0 j1 hI hG hf; exact absurd hf (by omega)
    | succ f ih =>
      intro j u x4 j0 j1 hI hG hf
      have hRu : AL E u R m := by rw [hR]; exact (t1.out hG hO hr.1 hr.2).2.1
      refine g_aload_n (pc' := 18) hX dX1_rowSum_17 rfl rfl ?_
      refine gF0E0 (pc' := 23) hX dX1_rowSum_18 ml_X1_108_J19 gc_J19 (nn_b hI.1.1) hI.1.2 (c_j_hasNext hRu (by omega) hI ⟨j0, j1⟩) (Nat.le_of_ble_eq_true rfl) (by decide) rfl ?_
      refine g_if_eq (pc' := 26) (tgt := 51) hX dX1_rowSum_23 (by decide) rfl (by omega) (fun h23 => ?_) (fun h23 => ?_)
      · skip
        refine g_iload_n (pc' := 52) hX dX1_rowSum_51 rfl rfl ?_
        exact g_retI hX hF dX1_rowSum_52 ⟨by rw [rS_m (by omega), show j = m by omega], hG⟩
      · skip
        refine g_aload_n (pc' := 27) hX dX1_rowSum_26 rfl rfl ?_
        refine gF0EA0 (pc' := 32) hX dX1_rowSum_27 ml_X1_114_J19 gc_J19 (nn_b hI.1.1) hI.1.2 (c_j_next hRu hI (by omega)) (Nat.le_of_ble_eq_true rfl) (by decide) rfl ?_
        have hel : el u R j = el w R j := by rw [hR]; exact (t1.out hG hO hr.1 hr.2).2.2 j j0 (by omega)
        obtain ⟨hbx0, hlt⟩ := t1.2.2.1 r j hr.1 hr.2 j0 (by omega)
        rw [← hR] at hbx0
        have hN := hI.nx hRu.1.2.1
        obtain ⟨hI2, hGi⟩ := hN
        have hG2 : Gr NoP w (upw (upw u r13 0 (j + 1)) r13 1 j) := hG.trN hGi (fun a i hk' z => hk' (by rw [z]; exact hk))
        have hbx := hbx0.gr hG2 id
        rw [hel]
        have hbb := hb1 r j hr.1 hr.2 j0 (by omega)
        refine g_cast (pc' := 35) hX dX1_rowSum_32 gc_J4 q475 hbx.1 hbx.2.1 rfl ?_
        refine g_astore_4 (pc' := 37) hX dX1_rowSum_35 (by decide) rfl rfl ?_
        refine g_iload_n (pc' := 38) hX dX1_rowSum_37 rfl rfl ?_
        refine g_aload (pc' := 40) hX dX1_rowSum_38 rfl rfl ?_
        refine gV0E0 (pc' := 43) hX dX1_rowSum_40 ml_X1_135 gc_J4 hbx.1 hbx.2.1 (c_j_intValue hbx) (Nat.le_of_ble_eq_true rfl) (by decide) rfl ?_
        refine gS1E0 (pc' := 46) hX dX1_rowSum_43 ml_X1_139 (c_k_costOf (by omega)) (Nat.le_of_ble_eq_true rfl) (by decide) rfl ?_
        refine g_iadd (pc' := 47) hX dX1_rowSum_46 rfl ?_
        rw [show (if h r j < 0 then (1000 : Int) else h r j) = cv (h r j) from rfl, ← sm_s (f := fun k => cv (h r k)) j0]
        refine g_istore_n_2 (pc' := 48) hX dX1_rowSum_47 (by decide) rfl rfl ?_
        refine g_goto (tgt := 17) hX dX1_rowSum_48 (by decide) ?_
        exact ih (j + 1) _ _ (by omega) (by omega) hI2 hG2 (by omega)
  exact GG_less (loop 9 0 w13 (9, 0) (by omega) (by omega) hI hG (by omega)) (by omega) (by omega)

end K3S
