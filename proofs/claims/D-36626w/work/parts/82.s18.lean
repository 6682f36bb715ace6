/-! THE COMPONENT MADE: its constructor (by gen/spec_s18.py) -/
set_option maxRecDepth 100000
set_option maxHeartbeats 8000000
/-- the object alone is written -/
def PRX (E : Ev) (xo : Int) (w : Wd) (F : Int → Int) (u : Wd) : Prop := Gr (fun a _ => a = xo) w u ∧ OW E u ∧ kdw u xo = 1 ∧ ∀ f, rdw u xo f = F f
section S18S
variable {X : Cx} {bc bs pc : Nat} {lv : List (Nat × Int)} {st : List Value} {E : Ev} {w w0 u u' : Wd} {r c n m sn sm l i j k v z xo b x q T T1 T2 : Int} {h sh : Int → Int → Int} {F : Int → Int} {e : En}
theorem PRX.pf (H : PRX E xo w F u) (hb : (eB E : Int) ≤ xo) (K : ∀ u', PRX E xo w (fun f => if f = i then v else F f) u' → u' = upw u xo i v → GG X bc bs u' pc lv st) : GG X bc bs (upw u xo i v) pc lv st := by
  refine K _ ⟨H.1.up rfl, H.2.1.gr (P := fun a _ => a = xo) (Gr.rf.up rfl) (fun a i z => by omega), H.2.2.1, fun f => ?_⟩ rfl
  show _ = if f = i then v else F f
  by_cases e : f = i
  · rw [rd_up_eq ⟨rfl, e⟩, if_pos e]
  · rw [rd_up_ne (by omega), if_neg e]; exact H.2.2.2 f
theorem PRX.nop (H : PRX E xo w F u) (hG : Gr NoP u u') (hO : OW E u') : PRX E xo w F u' := by
  have hk : kdw u xo ≠ 0 := by rw [H.2.2.1]; decide
  exact ⟨H.1.trN hG (fun _ _ _ z => z.elim), hO, (hG.kd hk).trans H.2.2.1, fun f => (hG.rd hk id).trans (H.2.2.2 f)⟩
/-- what a table owns is not an object of kind 1 -/
theorem TB.nx (H : TB E u T r c h) (hO : OW E u) (hk : kdw u xo = 1) (hb : (eB E : Int) ≤ xo) {l : Int} (hl : LSt u T r l) : l ≠ xo ∧ rdw u l 1 ≠ xo := by
  obtain ⟨q, hq⟩ := H.al hl
  refine ⟨kd_ne hq.1.2.1 hk (by decide), fun z => ?_⟩
  rcases hq.2 with y | y
  · have h1 := y.1
    have h2 := hO.1.1.1
    omega
  · have h1 := y.2.1
    rw [z, hk] at h1
    omega
theorem two_gr (H1 : TB E u T1 1 1 h) (H2 : TB E u T2 1 1 h) (hd : ∀ l, LSt u T1 1 l → ¬ LSt u T2 1 l) (hO : OW E u) (hk : kdw u xo = 1) (hb : (eB E : Int) ≤ xo) (hG : Gr (fun a _ => a = xo) u u') : TB E u' T1 1 1 h ∧ TB E u' T2 1 1 h ∧ ∀ l, LSt u' T1 1 l → ¬ LSt u' T2 1 l := by
  have g1 := H1.gr hG hO (fun a i z => by omega) (fun l i hl => (fun t => ⟨t.1, t.2⟩) (H1.nx hO hk hb hl))
  have g2 := H2.gr hG hO (fun a i z => by omega) (fun l i hl => (fun t => ⟨t.1, t.2⟩) (H2.nx hO hk hb hl))
  refine ⟨g1.1, g2.1, fun l hl z => hd l ((LSt.cg rfl (fun i i0 i1 => (g1.2.2 i i0 i1).1)).mp hl) ((LSt.cg rfl (fun i i0 i1 => (g2.2.2 i i0 i1).1)).mp z)⟩
theorem INX.fin (H : INX E xo b w0 32 F u) (hG : Gr (fun a _ => a = xo) w w0) (hO : OW E w0) (hB1 : TB E w0 T1 1 1 (fun _ _ => 0)) (hB2 : TB E w0 T2 1 1 (fun _ _ => 0)) (hd : ∀ l, LSt w0 T1 1 l → ¬ LSt w0 T2 1 l) (hfr : FRs w0) (hbz : b = szw w0) (hk0 : kdw w0 xo = 1)
    (hF : ∀ f : Int, (7 ≤ f ∧ f ≤ 15) ∨ (17 ≤ f ∧ f ≤ 21) → F f = b + xF f) (hf : (F 0 = 1 ∧ F 1 = 1 ∧ F 3 = 1 ∧ F 4 = 1) ∧ F 2 = T1 ∧ F 5 = T2 ∧ F 23 = 0) : ∃ b, szw w ≤ b ∧ XX E xo b 1 1 hz0 1 1 hz0 (-1, 0, 0, fun _ => 0) u ∧ Gr (fun a _ => a = xo) w u := by
  have hq15 := fun rk => H.pqs (q := 15) (Or.inl rfl) rk
  have hq21 := fun rk => H.pqs (q := 21) (Or.inr rfl) rk
  obtain ⟨⟨h1, h2, h3, h4⟩, hFu, hj, hr, hq, ho⟩ := H
  have hGu : Gr (fun a _ => a = xo) w0 u := ⟨by omega, fun a ha => by
    have hab : a < b := Int.lt_of_not_ge (fun z => ha (hfr a (by omega)))
    exact ⟨(ho a hab).1, (ho a hab).2.1, fun i hi => (ho a hab).2.2 hi i⟩⟩
  obtain ⟨g1, g2, g3⟩ := two_gr hB1 hB2 hd hO hk0 h2 hGu
  have hOu : OW E u := hO.gr hGu (fun a i z => by omega)
  have hX : XI E xo b u := ⟨⟨h2, h3, h4⟩, fun k k0 k1 => (hj k k0 (by omega)).1, fun k k0 k1 hk => (hj k k0 (by omega)).2 hk, fun f hf => by rw [hFu]; exact hF f hf, fun i i0 i1 => ⟨by have := (hr i i0 i1).1 (by omega); rwa [Int.add_zero] at this, (hr i i0 i1).2 (by omega)⟩⟩
  refine ⟨b, by have := hG.1; omega, ⟨hX, hOu, ⟨⟨by rw [hFu, hFu, hFu, hFu]; exact ⟨hf.1.1, hf.1.2.1, hf.1.2.2.1, hf.1.2.2.2⟩, by omega, by omega⟩, ⟨by rw [hFu, hf.2.1]; exact g1, by rw [hFu, hf.2.2.1]; exact g2, by rw [hFu, hFu, hf.2.1, hf.2.2.1]; exact g3⟩, fun i j _ _ _ _ => by unfold hz0; omega, fun i j _ _ _ _ => by unfold hz0; omega⟩, ⟨0, fun _ => False, (hq15 _).1, fun r hr => hr.elim, Or.inl (hq15 (rkW u)).2⟩, Or.inl ⟨rfl, by rw [hFu]; exact hf.2.2.2, 0, _, fun _ => 0, (hq21 _).1, Or.inl (hq21 (fun _ => 0)).2⟩⟩, hG.trN hGu (fun a i _ z => z)⟩
theorem c_x_init (hO : OW E w) (hxb : (eB E : Int) ≤ xo) (hxk : kdw w xo = 1) (h23 : rdw w xo 23 = 0) : Call E mX1_init 7 230 2000 [vR xo] w (qU (fun w' => ∃ b, szw w ≤ b ∧ XX E xo b 1 1 hz0 1 1 hz0 (-1, 0, 0, fun _ => 0) w' ∧ Gr (fun a _ => a = xo) w w')) := by
  refine call_of (av := [(1, xo)]) (by decide +kernel) rfl (Nat.le_of_ble_eq_true rfl) ?_
  intro X hX hF hname
  show GG X 230 2000 w 0 [(1, xo)] []
  have hx0 : 0 ≤ xo := by omega
  have hI : PRX E xo w (fun f => rdw w xo f) w := ⟨Gr.rf, hO, hxk, fun _ => rfl⟩
  refine g_aload_n (pc' := 1) hX dX1_init_0 rfl rfl ?_
  refine g_objInit (pc' := 4) hX dX1_init_1 q98 q99 q100 (by omega) (by decide) (Nat.le_of_ble_eq_true rfl) rfl ?_
  refine g_aload_n (pc' := 5) hX dX1_init_4 rfl rfl ?_
  refine g_iconst (pc' := 6) hX dX1_init_5 rfl ?_
  refine pf_X1_7 (pc' := 9) hX dX1_init_6 hxb hxk rfl ?_
  refine hI.pf hxb (fun u hI _ => ?_)
  have hxk := hI.2.2.1
  refine g_aload_n (pc' := 10) hX dX1_init_9 rfl rfl ?_
  refine g_iconst (pc' := 11) hX dX1_init_10 rfl ?_
  refine pf_X1_13 (pc' := 14) hX dX1_init_11 hxb hxk rfl ?_
  refine hI.pf hxb (fun u hI _ => ?_)
  have hxk := hI.2.2.1
  refine g_aload_n (pc' := 15) hX dX1_init_14 rfl rfl ?_
  refine g_iconst (pc' := 16) hX dX1_init_15 rfl ?_
  refine g_iconst (pc' := 17) hX dX1_init_16 rfl ?_
  refine gS2A (pc' := 20) hX dX1_init_17 ml_X1_16 (c_k_zeros hI.2.1 (by omega) (by omega)) (Nat.le_of_ble_eq_true rfl) (by decide) ⟨by omega, by omega⟩ rfl (fun r17 w17 q17 => ?_)
  obtain ⟨hT1, hG17, hO17⟩ := q17
  have hI := hI.nop hG17 hO17
  have hxk := hI.2.2.1
  refine pf_X1_20 (pc' := 23) hX dX1_init_20 hxb hxk rfl ?_
  have hT1f := fun v i => hT1.fld (x := v) (i := i) hI.2.1 hxk hxb
  refine hI.pf hxb (fun u hI hu => ?_)
  have hT1 := hT1f r17 2
  rw [← hu] at hT1
  clear hT1f
  have hxk := hI.2.2.1
  refine g_aload_n (pc' := 24) hX dX1_init_23 rfl rfl ?_
  refine g_iconst (pc' := 25) hX dX1_init_24 rfl ?_
  refine pf_X1_24 (pc' := 28) hX dX1_init_25 hxb hxk rfl ?_
  have hT1f := fun v i => hT1.fld (x := v) (i := i) hI.2.1 hxk hxb
  refine hI.pf hxb (fun u hI hu => ?_)
  have hT1 := hT1f 1 3
  rw [← hu] at hT1
  clear hT1f
  have hxk := hI.2.2.1
  refine g_aload_n (pc' := 29) hX dX1_init_28 rfl rfl ?_
  refine g_iconst (pc' := 30) hX dX1_init_29 rfl ?_
  refine pf_X1_27 (pc' := 33) hX dX1_init_30 hxb hxk rfl ?_
  have hT1f := fun v i => hT1.fld (x := v) (i := i) hI.2.1 hxk hxb
  refine hI.pf hxb (fun u hI hu => ?_)
  have hT1 := hT1f 1 4
  rw [← hu] at hT1
  clear hT1f
  have hxk := hI.2.2.1
  refine g_aload_n (pc' := 34) hX dX1_init_33 rfl rfl ?_
  refine g_iconst (pc' := 35) hX dX1_init_34 rfl ?_
  refine g_iconst (pc' := 36) hX dX1_init_35 rfl ?_
  refine gS2A (pc' := 39) hX dX1_init_36 ml_X1_16 (c_k_zeros hI.2.1 (by omega) (by omega)) (Nat.le_of_ble_eq_true rfl) (by decide) ⟨by omega, by omega⟩ rfl (fun r36 w36 q36 => ?_)
  obtain ⟨hT2, hG36, hO36⟩ := q36
  have n1 := hT1.nop hG36 hI.2.1
  have hd : ∀ l, LSt w36 r17 1 l → ¬ LSt w36 r36 1 l := fun l hl z => by
    have h1 := (hT2.2 l z).1
    obtain ⟨k, hk⟩ := hT1.1.al ((n1.2 l).mp hl)
    have h2 := hk.1.2.1
    omega
  have hB1 := n1.1.1
  have hB2 := hT2.1
  have hI := hI.nop hG36 hO36
  have hxk := hI.2.2.1
  refine pf_X1_30 (pc' := 42) hX dX1_init_39 hxb hxk rfl ?_
  refine hI.pf hxb (fun u hI hu => ?_)
  obtain ⟨hB1, hB2, hd⟩ := two_gr hB1 hB2 hd hO36 hxk hxb (u' := u) (by rw [hu]; exact Gr.rf.up rfl)
  have hxk := hI.2.2.1
  have hO39 := hI.2.1
  have hG39 := hI.1
  clear hT1 hT2 n1 hG17 hG36
  refine g_aload_n (pc' := 43) hX dX1_init_42 rfl rfl ?_
  refine g_bipush (pc' := 45) hX dX1_init_43 rfl rfl ?_
  refine g_bipush (pc' := 47) hX dX1_init_45 rfl rfl ?_
  refine g_fr (fun hfr hs0 => ?_)
  obtain ⟨w39, hw39⟩ : ∃ w39, w39 = u := ⟨_, rfl⟩
  obtain ⟨b, hbz⟩ : ∃ b, b = szw u := ⟨_, rfl⟩
  have hxlt : xo < b := by
    rw [hbz]
    exact Int.lt_of_not_ge (fun z => by have := hfr xo z; omega)
  have hI : INX E xo b w39 0 _ u := ⟨⟨by omega, hxb, hxlt, hxk⟩, hI.2.2.2, fun j j0 j1 => by omega, fun i i0 i1 => ⟨fun z => by omega, fun z => by omega⟩, fun q hq => ⟨fun z => by omega, fun z => by omega⟩, fun a a1 => by rw [hw39]; exact ⟨rfl, rfl, fun _ i => rfl⟩⟩
  rw [← hw39] at hB1 hB2 hd hO39 hG39 hfr
  have hxk39 : kdw w39 xo = 1 := by rw [hw39]; exact hxk
  rw [← hw39] at hbz
  refine g_multi (pc' := 51) hX dX1_init_47 q218 q229 (by omega) (by omega) rfl ?_
  have hz := hI.1.1
  refine hI.ml (by omega) (by omega) (fun u (hI : INX E xo b w39 8 _ u) => ?_)
  have hxk := hI.1.2.2.2
  rw [hz]
  refine pf_X1_35 (pc' := 54) hX hname dX1_init_51 hxb hxk rfl ?_
  refine hI.pf (fun u hI => ?_)
  have hxk := hI.1.2.2.2
  refine g_aload_n (pc' := 55) hX dX1_init_54 rfl rfl ?_
  refine g_bipush (pc' := 57) hX dX1_init_55 rfl rfl ?_
  refine g_newa (pc' := 59) 0 7 hX dX1_init_57 (by decide) rfl q229 rfl (by omega) (by omega) (by omega) rfl ?_
  have hz := hI.1.1
  refine hI.al (by omega) (by omega) (show xK b 8 = 50 from rfl) (fun _ => rfl) (fun z => by omega) (fun u (hI : INX E xo b w39 9 _ u) => ?_)
  have hxk := hI.1.2.2.2
  rw [hz]
  refine pf_X1_38 (pc' := 62) hX hname dX1_init_59 hxb hxk rfl ?_
  refine hI.pf (fun u hI => ?_)
  have hxk := hI.1.2.2.2
  refine g_aload_n (pc' := 63) hX dX1_init_62 rfl rfl ?_
  refine g_bipush (pc' := 65) hX dX1_init_63 rfl rfl ?_
  refine g_newa (pc' := 67) 0 7 hX dX1_init_65 (by decide) rfl q229 rfl (by omega) (by omega) (by omega) rfl ?_
  have hz := hI.1.1
  refine hI.al (by omega) (by omega) (show xK b 9 = 50 from rfl) (fun _ => rfl) (fun z => by omega) (fun u (hI : INX E xo b w39 10 _ u) => ?_)
  have hxk := hI.1.2.2.2
  rw [hz]
  refine pf_X1_42 (pc' := 70) hX hname dX1_init_67 hxb hxk rfl ?_
  refine hI.pf (fun u hI => ?_)
  have hxk := hI.1.2.2.2
  refine g_aload_n (pc' := 71) hX dX1_init_70 rfl rfl ?_
  refine g_bipush (pc' := 73) hX dX1_init_71 rfl rfl ?_
  refine g_newa (pc' := 75) 0 7 hX dX1_init_73 (by decide) rfl q229 rfl (by omega) (by omega) (by omega) rfl ?_
  have hz := hI.1.1
  refine hI.al (by omega) (by omega) (show xK b 10 = 50 from rfl) (fun _ => rfl) (fun z => by omega) (fun u (hI : INX E xo b w39 11 _ u) => ?_)
  have hxk := hI.1.2.2.2
  rw [hz]
  refine pf_X1_45 (pc' := 78) hX hname dX1_init_75 hxb hxk rfl ?_
  refine hI.pf (fun u hI => ?_)
  have hxk := hI.1.2.2.2
  refine g_aload_n (pc' := 79) hX dX1_init_78 rfl rfl ?_
  refine g_bipush (pc' := 81) hX dX1_init_79 rfl rfl ?_
  refine g_newa (pc' := 83) 0 7 hX dX1_init_81 (by decide) rfl q229 rfl (by omega) (by omega) (by omega) rfl ?_
  have hz := hI.1.1
  refine hI.al (by omega) (by omega) (show xK b 11 = 50 from rfl) (fun _ => rfl) (fun z => by omega) (fun u (hI : INX E xo b w39 12 _ u) => ?_)
  have hxk := hI.1.2.2.2
  rw [hz]
  refine pf_X1_48 (pc' := 86) hX hname dX1_init_83 hxb hxk rfl ?_
  refine hI.pf (fun u hI => ?_)
  have hxk := hI.1.2.2.2
  refine g_aload_n (pc' := 87) hX dX1_init_86 rfl rfl ?_
  refine g_bipush (pc' := 89) hX dX1_init_87 rfl rfl ?_
  refine g_newa (pc' := 91) 0 7 hX dX1_init_89 (by decide) rfl q229 rfl (by omega) (by omega) (by omega) rfl ?_
  have hz := hI.1.1
  refine hI.al (by omega) (by omega) (show xK b 12 = 50 from rfl) (fun _ => rfl) (fun z => by omega) (fun u (hI : INX E xo b w39 13 _ u) => ?_)
  have hxk := hI.1.2.2.2
  rw [hz]
  refine pf_X1_51 (pc' := 94) hX hname dX1_init_91 hxb hxk rfl ?_
  refine hI.pf (fun u hI => ?_)
  have hxk := hI.1.2.2.2
  refine g_aload_n (pc' := 95) hX dX1_init_94 rfl rfl ?_
  refine g_bipush (pc' := 97) hX dX1_init_95 rfl rfl ?_
  refine g_newa (pc' := 99) 0 7 hX dX1_init_97 (by decide) rfl q229 rfl (by omega) (by omega) (by omega) rfl ?_
  have hz := hI.1.1
  refine hI.al (by omega) (by omega) (show xK b 13 = 50 from rfl) (fun _ => rfl) (fun z => by omega) (fun u (hI : INX E xo b w39 14 _ u) => ?_)
  have hxk := hI.1.2.2.2
  rw [hz]
  refine pf_X1_54 (pc' := 102) hX hname dX1_init_99 hxb hxk rfl ?_
  refine hI.pf (fun u hI => ?_)
  have hxk := hI.1.2.2.2
  refine g_aload_n (pc' := 103) hX dX1_init_102 rfl rfl ?_
  refine g_bipush (pc' := 105) hX dX1_init_103 rfl rfl ?_
  refine g_newa (pc' := 107) 1 7 hX dX1_init_105 (by decide) rfl q230 rfl (by omega) (by omega) (by omega) rfl ?_
  have hz := hI.1.1
  refine hI.al (by omega) (by omega) (show xK b 14 = 51 from rfl) (fun _ => rfl) (fun z => by omega) (fun u (hI : INX E xo b w39 15 _ u) => ?_)
  have hxk := hI.1.2.2.2
  rw [hz]
  refine pf_X1_57 (pc' := 110) hX hname dX1_init_107 hxb hxk rfl ?_
  refine hI.pf (fun u hI => ?_)
  have hxk := hI.1.2.2.2
  refine g_aload_n (pc' := 111) hX dX1_init_110 rfl rfl ?_
  refine g_new (pc' := 114) (fun j => if j = 0 ∨ j = 2 then -1 else 0) hX dX1_init_111 gc_J9 q220 q221 q68 (by decide) (by omega) (by omega) rfl ?_
  have hz := hI.1.1
  refine hI.al (by omega) (by omega) (show xK b 15 = 9 from rfl) (fun z => by omega) (fun _ => rfl) (fun u (hI : INX E xo b w39 16 _ u) => ?_)
  have hxk := hI.1.2.2.2
  rw [hz]
  refine g_dup (pc' := 115) hX dX1_init_114 (vR_cat _) rfl ?_
  refine g_new (pc' := 118) (fun _ => 0) hX dX1_init_115 gc_X2 q222 q223 q69 (by decide) (by omega) (by omega) rfl ?_
  have hz := hI.1.1
  refine hI.al (by omega) (by omega) (show xK b 16 = 5 from rfl) (fun z => by omega) (fun z => by omega) (fun u (hI : INX E xo b w39 17 _ u) => ?_)
  have hxk := hI.1.2.2.2
  rw [hz]
  refine g_dup (pc' := 119) hX dX1_init_118 (vR_cat _) rfl ?_
  refine g_nest (M := mX2_init) (host := "ChoreAssignment") (pc' := 122) hX dX1_init_119 (fun U hU => hU.2.2.2.2.1.1) (lw_meth q226) rfl q69 q225 rfl ⟨by decide +kernel, by decide +kernel, by decide +kernel⟩ (by decide) (by omega) (c_k_bycost (by omega)) (Nat.le_of_ble_eq_true rfl) (by decide) rfl ?_
  refine gI1EU (pc' := 125) hX dX1_init_122 ml_X1_66 (by omega) (c_j_pqInit (by omega) (hI.2.2.1 15 (by omega) (by omega)).1) (Nat.le_of_ble_eq_true rfl) (by decide) ⟨by omega, by omega⟩ rfl ?_
  refine hI.pq (q := 15) (by omega) (by omega) (by omega) (fun u (hI : INX E xo b w39 18 _ u) => ?_)
  have hxk := hI.1.2.2.2
  refine pf_X1_69 (pc' := 128) hX hname dX1_init_125 hxb hxk rfl ?_
  refine hI.pf (fun u hI => ?_)
  have hxk := hI.1.2.2.2
  refine g_aload_n (pc' := 129) hX dX1_init_128 rfl rfl ?_
  refine g_sipush (pc' := 132) hX dX1_init_129 rfl rfl ?_
  refine g_newa (pc' := 134) 0 128 hX dX1_init_132 (by decide) rfl q229 rfl (by omega) (by omega) (by omega) rfl ?_
  have hz := hI.1.1
  refine hI.al (by omega) (by omega) (show xK b 18 = 50 from rfl) (fun _ => rfl) (fun z => by omega) (fun u (hI : INX E xo b w39 19 _ u) => ?_)
  have hxk := hI.1.2.2.2
  rw [hz]
  refine pf_X1_73 (pc' := 137) hX hname dX1_init_134 hxb hxk rfl ?_
  refine hI.pf (fun u hI => ?_)
  have hxk := hI.1.2.2.2
  refine g_aload_n (pc' := 138) hX dX1_init_137 rfl rfl ?_
  refine g_bipush (pc' := 140) hX dX1_init_138 rfl rfl ?_
  refine g_newa (pc' := 142) 0 7 hX dX1_init_140 (by decide) rfl q229 rfl (by omega) (by omega) (by omega) rfl ?_
  have hz := hI.1.1
  refine hI.al (by omega) (by omega) (show xK b 19 = 50 from rfl) (fun _ => rfl) (fun z => by omega) (fun u (hI : INX E xo b w39 20 _ u) => ?_)
  have hxk := hI.1.2.2.2
  rw [hz]
  refine pf_X1_76 (pc' := 145) hX hname dX1_init_142 hxb hxk rfl ?_
  refine hI.pf (fun u hI => ?_)
  have hxk := hI.1.2.2.2
  refine g_aload_n (pc' := 146) hX dX1_init_145 rfl rfl ?_
  refine g_bipush (pc' := 148) hX dX1_init_146 rfl rfl ?_
  refine g_newa (pc' := 150) 0 7 hX dX1_init_148 (by decide) rfl q229 rfl (by omega) (by omega) (by omega) rfl ?_
  have hz := hI.1.1
  refine hI.al (by omega) (by omega) (show xK b 20 = 50 from rfl) (fun _ => rfl) (fun z => by omega) (fun u (hI : INX E xo b w39 21 _ u) => ?_)
  have hxk := hI.1.2.2.2
  rw [hz]
  refine pf_X1_79 (pc' := 153) hX hname dX1_init_150 hxb hxk rfl ?_
  refine hI.pf (fun u hI => ?_)
  have hxk := hI.1.2.2.2
  refine g_aload_n (pc' := 154) hX dX1_init_153 rfl rfl ?_
  refine g_new (pc' := 157) (fun j => if j = 0 ∨ j = 2 then -1 else 0) hX dX1_init_154 gc_J9 q220 q221 q68 (by decide) (by omega) (by omega) rfl ?_
  have hz := hI.1.1
  refine hI.al (by omega) (by omega) (show xK b 21 = 9 from rfl) (fun z => by omega) (fun _ => rfl) (fun u (hI : INX E xo b w39 22 _ u) => ?_)
  have hxk := hI.1.2.2.2
  rw [hz]
  refine g_dup (pc' := 158) hX dX1_init_157 (vR_cat _) rfl ?_
  refine g_new (pc' := 161) (fun _ => 0) hX dX1_init_158 gc_X3 q321 q322 q74 (by decide) (by omega) (by omega) rfl ?_
  have hz := hI.1.1
  refine hI.al (by omega) (by omega) (show xK b 22 = 6 from rfl) (fun z => by omega) (fun z => by omega) (fun u (hI : INX E xo b w39 23 _ u) => ?_)
  have hxk := hI.1.2.2.2
  rw [hz]
  refine g_dup (pc' := 162) hX dX1_init_161 (vR_cat _) rfl ?_
  refine g_nest (M := mX3_init) (host := "ChoreAssignment") (pc' := 165) hX dX1_init_162 (fun U hU => hU.2.2.2.2.1.2) (lw_meth q325) rfl q74 q324 rfl ⟨by decide +kernel, by decide +kernel, by decide +kernel⟩ (by decide) (by omega) (c_k_bybound (by omega)) (Nat.le_of_ble_eq_true rfl) (by decide) rfl ?_
  refine gI1EU (pc' := 168) hX dX1_init_165 ml_X1_66 (by omega) (c_j_pqInit (by omega) (hI.2.2.1 21 (by omega) (by omega)).1) (Nat.le_of_ble_eq_true rfl) (by decide) ⟨by omega, by omega⟩ rfl ?_
  refine hI.pq (q := 21) (by omega) (by omega) (by omega) (fun u (hI : INX E xo b w39 24 _ u) => ?_)
  have hxk := hI.1.2.2.2
  refine pf_X1_85 (pc' := 171) hX hname dX1_init_168 hxb hxk rfl ?_
  refine hI.pf (fun u hI => ?_)
  have hxk := hI.1.2.2.2
  refine g_aload_n (pc' := 172) hX dX1_init_171 rfl rfl ?_
  refine g_bipush (pc' := 174) hX dX1_init_172 rfl rfl ?_
  refine g_bipush (pc' := 176) hX dX1_init_174 rfl rfl ?_
  refine g_multi (pc' := 180) hX dX1_init_176 q218 q229 (by omega) (by omega) rfl ?_
  have hz := hI.1.1
  refine hI.ml (by omega) (by omega) (fun u (hI : INX E xo b w39 32 _ u) => ?_)
  have hxk := hI.1.2.2.2
  rw [hz]
  refine pf_X1_88 (pc' := 183) hX hname dX1_init_180 hxb hxk rfl ?_
  refine hI.pf (fun u hI => ?_)
  have hxk := hI.1.2.2.2
  skip

end S18S
