/-! THE COMPONENT: lists made and filled; small methods (by gen/spec_k2.py) -/
set_option maxRecDepth 100000
set_option maxHeartbeats 4000000
abbrev NoP : Int → Int → Prop := fun _ _ => False
section K2R
variable {X : Cx} {E : Ev} {own : String} {cc : ByteArray} {nL d bc bs : Nat} {w w' : Wd} {pc pc' : Nat} {lv : List (Nat × Int)} {st : List Value} {P : Int → Int → Prop} {T r c n l i x : Int} {h : Int → Int → Int}
/-- a new list -/
theorem newL (hO : OW E w) (hfr : FRs w) (hs : (eB E : Int) ≤ szw w) (g : Int → Int) (hg : g 2 = 0) : AL E (upw (upw (alw w 7 0 g) (szw w) 0 0) (szw w) 1 (eC E : Int)) (szw w) 0 ∧ Gr NoP w (upw (upw (alw w 7 0 g) (szw w) 0 0) (szw w) 1 (eC E : Int)) := by
  refine ⟨⟨⟨hs, ?_, ?_, Int.le_refl _⟩, Or.inl ⟨?_, rfl⟩⟩, ((Gr.rf.al hfr).upN (hfr _ (Int.le_refl _))).upN (hfr _ (Int.le_refl _))⟩
  · rw [kd_up, kd_up, kd_al, if_pos rfl]
  · rw [rd_up_ne (by omega), rd_up_ne (by omega), rd_al, if_pos rfl, hg]
  · rw [rd_up_eq ⟨rfl, rfl⟩]
theorem g_newAL (h : Ok X E RX1 cc nL d) (d0 : decode cc pc = .ok (.new 91, 3)) (d3 : decode cc (pc + 3) = .ok (.dup, 1)) (d4 : decode cc (pc + 3 + 1) = .ok (.invokespecial 93, 3)) (hO : OW E w) (hd : 4 ≤ d) (hc1 : 1 ≤ bc) (hc2 : 3 ≤ bs) (hs : st.length ≤ 3) (hp : pc + 3 + 1 + 3 = pc')
    (K : ∀ u l, AL E u l 0 → rdw u l 1 = (eC E : Int) → kdw w l = 0 → Gr NoP w u → OW E u → GG X (bc - 1) (bs - 3) u pc' lv (vR l :: st)) : GG X bc bs w pc lv st := by
  refine g_fr (fun hfr hs0 => ?_)
  refine g_szB h (fun hszB => ?_)
  refine g_new (pc' := pc + 3) (fun j => if j = 1 then -1 else 0) h d0 gc_J2 q104 q105 q59 (by decide) hc1 hc2 rfl ?_
  refine g_dup (pc' := pc + 3 + 1) h d3 (vR_cat _) rfl ?_
  have hk : kdw (alw w 7 0 (fun j => if j = 1 then -1 else 0)) (szw w) = 7 := by rw [kd_al, if_pos rfl]
  have hN := newL hO hfr hszB (fun j => if j = 1 then -1 else 0) rfl
  refine gI0EU0 (pc' := pc') h d4 ml_X1_93 hs0 (c_j_initL hszB hk) (by simpa using hs) hd hp ?_
  exact K _ _ hN.1 (rd_up_eq ⟨rfl, rfl⟩) (hfr _ (Int.le_refl _)) hN.2 (hO.gr hN.2 (fun a i z => z.elim))
/-- what two lists own is apart -/
theorem apd {l' n' : Int} (hO : OW E w) (hl : AL E w l n) (hl' : AL E w l' n') (hne : l' ≠ l) : ¬ aP E w l l' ∧ ¬ aP E w l (rdw w l' 1) := by
  have h7 := hl.1.2.1
  have h7' := hl'.1.2.1
  have hl0 := hl.h0
  have hl0' := hl'.h0
  have hC := hO.1.1.1
  have hb := hl.1.1
  unfold aP
  constructor
  · rintro (z | ⟨z, z2⟩)
    · exact hne z
    · rcases hl.2 with q | q
      · rw [← z] at q; omega
      · rw [← z] at q; omega
  · rintro (z | ⟨z, z2⟩)
    · rcases hl'.2 with q | q
      · have := q.1; omega
      · rw [z] at q; omega
    · rcases hl'.2 with q | q
      · have := q.1; omega
      · rcases hl.2 with y | y
        · have := y.1; omega
        · rw [z] at q
          omega
theorem aP_b (hl : AL E w l n) {a : Int} (h : aP E w l a) : (eB E : Int) ≤ a := by
  rcases h with z | z
  · rw [z]; exact hl.1.1
  · exact z.2
/-- a table, when another list is written -/
theorem TB.ap (H : TB E w T r c h) (hO : OW E w) (hl : AL E w l n) (hne : ¬ LSt w T r l) (hG : Gr (fun a _ => aP E w l a) w w') :
    TB E w' T r c h ∧ rdw w' T 1 = rdw w T 1 ∧ (∀ i : Int, 0 ≤ i → i < r → el w' T i = el w T i ∧ rdw w' (el w T i) 1 = rdw w (el w T i) 1 ∧ ∀ j : Int, 0 ≤ j → j < c → el w' (el w T i) j = el w (el w T i) j) :=
  H.gr hG hO (fun a i z => aP_b hl z) (fun l' i hl' => by
    obtain ⟨k, hk⟩ := H.al hl'
    exact apd hO hl hk (fun z => hne (by rw [← z]; exact hl')))
/-- a row put behind -/
theorem TB.push (H : TB E w T i c h) (hO : OW E w) (hl : AL E w l c) (hne : ¬ LSt w T i l) (hv : ∀ j : Int, 0 ≤ j → j < c → bx w (el w l j) (h i j) ∧ el w l j < eB E) (hA : addP E w T i l w') (hi : 0 ≤ i) : TB E w' T (i + 1) c h ∧ ∀ x, LSt w' T (i + 1) x ↔ (LSt w T i x ∨ x = l) := by
  obtain ⟨a1, a2, a3, a4, -⟩ := hA
  have hP : ∀ a : Int, aP E w T a → (eB E : Int) ≤ a := fun a z => aP_b H.1 z
  have key : ∀ y, AL E w y c → y ≠ T → AL E w' y c ∧ (∀ j : Int, 0 ≤ j → j < c → el w' y j = el w y j) := fun y hy hyT => by
    have h1 := apd hO H.1 hy hyT
    exact ⟨(hy.gr a2 h1.1 h1.1 hO).1, fun j j0 j1 => hy.els a2 h1.1 ⟨j0, j1⟩ h1.2⟩
  have hbx : ∀ o v, bx w o v → o < eB E → bx w' o v := fun o v hb ho => hb.gr a2 (fun z => by have := hP _ z; omega)
  have hlT : l ≠ T := fun z => hne (Or.inl z)
  refine ⟨⟨a1, fun k k0 k1 => ?_, fun k j k0 k1 j0 j1 => ?_, fun k j k0 k1 j0 j1 e => ?_⟩, fun x => ⟨?_, ?_⟩⟩
  · by_cases hk : k = i
    · rw [hk, a4]; exact ⟨(key l hl hlT).1, hlT⟩
    · rw [a3 k k0 (by omega)]
      have := H.2.1 k k0 (by omega)
      exact ⟨(key _ this.1 this.2).1, this.2⟩
  · by_cases hk : k = i
    · rw [hk, a4, (key l hl hlT).2 j j0 j1]
      exact ⟨hbx _ _ (hv j j0 j1).1 (hv j j0 j1).2, (hv j j0 j1).2⟩
    · have h1 := H.2.1 k k0 (by omega)
      have h2 := H.2.2.1 k j k0 (by omega) j0 j1
      rw [a3 k k0 (by omega), (key _ h1.1 h1.2).2 j j0 j1]
      exact ⟨hbx _ _ h2.1 h2.2, h2.2⟩
  · by_cases hk : k = i
    · by_cases hj : j = i
      · omega
      · rw [hk, a4, a3 j j0 (by omega)] at e
        exact absurd (Or.inr ⟨j, j0, by omega, e.symm⟩) hne
    · by_cases hj : j = i
      · rw [hj, a4, a3 k k0 (by omega)] at e
        exact absurd (Or.inr ⟨k, k0, by omega, e⟩) hne
      · rw [a3 k k0 (by omega), a3 j j0 (by omega)] at e
        exact H.2.2.2 k j k0 (by omega) j0 (by omega) e
  · rintro (z | ⟨k, k0, k1, z⟩)
    · exact Or.inl (Or.inl z)
    · by_cases hk : k = i
      · rw [hk, a4] at z; exact Or.inr z.symm
      · rw [a3 k k0 (by omega)] at z; exact Or.inl (Or.inr ⟨k, k0, by omega, z⟩)
  · rintro ((z | ⟨k, k0, k1, z⟩) | z)
    · exact Or.inl z
    · exact Or.inr ⟨k, k0, by omega, by rw [a3 k k0 k1]; exact z⟩
    · exact Or.inr ⟨i, hi, by omega, by rw [a4, z]⟩
theorem okr_k {a : Int} {k : Nat} (h : kdw w a = k) (hk : 1 ≤ k ∧ k ≤ 10) : okr w a := Or.inr (by rw [h]; exact hk)
theorem TB.nop (H : TB E w T r c h) (hO : OW E w) (hG : Gr NoP w w') : TB E w' T r c h ∧ rdw w' T 1 = rdw w T 1 ∧ (∀ i : Int, 0 ≤ i → i < r → el w' T i = el w T i ∧ rdw w' (el w T i) 1 = rdw w (el w T i) 1 ∧ ∀ j : Int, 0 ≤ j → j < c → el w' (el w T i) j = el w (el w T i) j) :=
  H.gr hG hO (fun _ _ z => z.elim) (fun _ _ _ => ⟨id, id⟩)
theorem OW.nop (hO : OW E w) (hG : Gr NoP w w') : OW E w' := hO.gr hG (fun _ _ z => z.elim)
theorem XX.nop {xo b n m sn sm : Int} {h sh : Int → Int → Int} {e : En} (H : XX E xo b n m h sn sm sh e w) (hG : Gr NoP w w') : XX E xo b n m h sn sm sh e w' := H.gr hG (fun _ _ z => z.elim)
theorem LSt.kd (H : TB E w T r c h) {y : Int} (hy : LSt w T r y) : kdw w y = 7 := by
  obtain ⟨k, hk⟩ := H.al hy
  exact hk.1.2.1
end K2R
section K2S
variable {E : Ev} {w : Wd} {xo b n m sn sm r c i j v z a T x : Int} {h sh : Int → Int → Int} {e : En}
theorem c_k_costOf (bv : -2147483648 ≤ v ∧ v ≤ 2147483647) : Call E mX1_costOf 0 0 0 [vI v] w (qE (if v < 0 then 1000 else v) w) := by
  refine call_of (av := [(0, v)]) (by decide +kernel) rfl (Nat.le_of_ble_eq_true rfl) ?_
  intro X hX hF hname
  show GG X 0 0 w 0 [(0, v)] []
  refine g_iload_n (pc' := 1) hX dX1_costOf_0 rfl rfl ?_
  refine g_if_ge (pc' := 4) (tgt := 10) hX dX1_costOf_1 (by decide) rfl (by omega) (fun h1 => ?_) (fun h1 => ?_)
  · skip
    refine g_iload_n (pc' := 11) hX dX1_costOf_10 rfl rfl ?_
    exact g_retE hX hF dX1_costOf_11 (by (repeat' split) <;> omega) rfl
  · skip
    refine g_sipush (pc' := 7) hX dX1_costOf_4 rfl rfl ?_
    refine g_goto (tgt := 11) hX dX1_costOf_7 (by decide) ?_
    exact g_retE hX hF dX1_costOf_11 (by (repeat' split) <;> omega) rfl

theorem c_k_numberOf (bv : -2147483648 ≤ v ∧ v ≤ 2147483647) : Call E mX1_numberOf 0 0 0 [vI v] w (qE (hno v) w) := by
  refine call_of (av := [(0, v)]) (by decide +kernel) rfl (Nat.le_of_ble_eq_true rfl) ?_
  intro X hX hF hname
  show GG X 0 0 w 0 [(0, v)] []
  refine g_iload_n (pc' := 1) hX dX1_numberOf_0 rfl rfl ?_
  refine g_if_ge (pc' := 4) (tgt := 10) hX dX1_numberOf_1 (by decide) rfl (by omega) (fun h1 => ?_) (fun h1 => ?_)
  · skip
    refine g_iload_n (pc' := 11) hX dX1_numberOf_10 rfl rfl ?_
    exact g_retE hX hF dX1_numberOf_11 (by unfold hno; (repeat' split) <;> omega) rfl
  · skip
    refine g_iconst (pc' := 5) hX dX1_numberOf_4 rfl ?_
    refine g_iload_n (pc' := 6) hX dX1_numberOf_5 rfl rfl ?_
    refine g_isub (pc' := 7) hX dX1_numberOf_6 rfl ?_
    refine g_goto (tgt := 11) hX dX1_numberOf_7 (by decide) ?_
    exact g_retE hX hF dX1_numberOf_11 (by unfold hno; (repeat' split) <;> omega) rfl

theorem c_k_isIn (ba : -9223372036854775808 ≤ a ∧ a ≤ 9223372036854775807) (bv : -9223372036854775808 ≤ v ∧ v ≤ 9223372036854775807) (bz : -9223372036854775808 ≤ z ∧ z ≤ 9223372036854775807) : Call E mX1_isIn 0 0 0 [vL a, vL v, vL z] w (qE (if v ≤ a ∧ a ≤ z then 1 else 0) w) := by
  refine call_of (av := [(2, a), (2, v), (2, z)]) (by decide +kernel) rfl (Nat.le_of_ble_eq_true rfl) ?_
  intro X hX hF hname
  show GG X 0 0 w 0 [(2, a), (9, 0), (2, v), (9, 0), (2, z), (9, 0)] []
  refine g_lload_n (pc' := 1) hX dX1_isIn_0 rfl rfl ?_
  refine g_lload_n (pc' := 2) hX dX1_isIn_1 rfl rfl ?_
  refine g_lcmp (pc' := 3) hX dX1_isIn_2 (by omega) (by omega) rfl ?_
  refine g_if_lt (pc' := 6) (tgt := 17) hX dX1_isIn_3 (by decide) rfl lcmp_rng (fun h3 => ?_) (fun h3 => ?_)
  · skip
    rw [lcmp_lt0] at h3
    refine g_iconst (pc' := 18) hX dX1_isIn_17 rfl ?_
    first
      | exact g_retEZ hX hF dX1_isIn_18 (by omega) (by rw [if_pos (by omega)]) rfl
      | exact g_retEZ hX hF dX1_isIn_18 (by omega) (by rw [if_neg (by omega)]) rfl
  · skip
    rw [lcmp_lt0] at h3
    refine g_lload_n (pc' := 7) hX dX1_isIn_6 rfl rfl ?_
    refine g_lload (pc' := 9) hX dX1_isIn_7 rfl rfl ?_
    refine g_lcmp (pc' := 10) hX dX1_isIn_9 (by omega) (by omega) rfl ?_
    refine g_if_gt (pc' := 13) (tgt := 17) hX dX1_isIn_10 (by decide) rfl lcmp_rng (fun h10 => ?_) (fun h10 => ?_)
    · skip
      rw [lcmp_gt0] at h10
      refine g_iconst (pc' := 18) hX dX1_isIn_17 rfl ?_
      first
        | exact g_retEZ hX hF dX1_isIn_18 (by omega) (by rw [if_pos (by omega)]) rfl
        | exact g_retEZ hX hF dX1_isIn_18 (by omega) (by rw [if_neg (by omega)]) rfl
    · skip
      rw [lcmp_gt0] at h10
      refine g_iconst (pc' := 14) hX dX1_isIn_13 rfl ?_
      refine g_goto (tgt := 18) hX dX1_isIn_14 (by decide) ?_
      first
        | exact g_retEZ hX hF dX1_isIn_18 (by omega) (by rw [if_pos (by omega)]) rfl
        | exact g_retEZ hX hF dX1_isIn_18 (by omega) (by rw [if_neg (by omega)]) rfl

theorem c_k_needPlace (hz : z = 0 ∨ z = 1) : Call E mX1_needPlace 7 1 6 [vI z] w (qUX (fun w' => z = 1 ∧ w' = w) (fun k w' => k = 1 ∧ z = 0 ∧ Gr NoP w w')) := by
  refine call_of (av := [(0, z)]) (by decide +kernel) rfl (Nat.le_of_ble_eq_true rfl) ?_
  intro X hX hF hname
  show GG X 1 6 w 0 [(0, z)] []
  refine g_iload_n (pc' := 1) hX dX1_needPlace_0 rfl rfl ?_
  refine g_if_ne (pc' := 4) (tgt := 12) hX dX1_needPlace_1 (by decide) rfl (by omega) (fun h1 => ?_) (fun h1 => ?_)
  · skip
    exact g_retUX hX hF dX1_needPlace_12 ⟨by omega, rfl⟩
  · skip
    refine g_throw0 hX hF (k := 1) (by decide) lt_io dX1_needPlace_4 dX1_needPlace_7 dX1_needPlace_8 dX1_needPlace_11 (by decide) (by decide) (by decide) (Nat.le_of_ble_eq_true rfl) (fun s hs => Or.inr ⟨by decide, rfl, by omega, Gr.rf.szU hs⟩)

theorem c_k_needNumber (hz : z = 0 ∨ z = 1) : Call E mX1_needNumber 7 1 6 [vI z] w (qUX (fun w' => z = 1 ∧ w' = w) (fun k w' => k = 2 ∧ z = 0 ∧ Gr NoP w w')) := by
  refine call_of (av := [(0, z)]) (by decide +kernel) rfl (Nat.le_of_ble_eq_true rfl) ?_
  intro X hX hF hname
  show GG X 1 6 w 0 [(0, z)] []
  refine g_iload_n (pc' := 1) hX dX1_needNumber_0 rfl rfl ?_
  refine g_if_ne (pc' := 4) (tgt := 12) hX dX1_needNumber_1 (by decide) rfl (by omega) (fun h1 => ?_) (fun h1 => ?_)
  · skip
    exact g_retUX hX hF dX1_needNumber_12 ⟨by omega, rfl⟩
  · skip
    refine g_throw0 hX hF (k := 2) (by decide) lt_ia dX1_needNumber_4 dX1_needNumber_7 dX1_needNumber_8 dX1_needNumber_11 (by decide) (by decide) (by decide) (Nat.le_of_ble_eq_true rfl) (fun s hs => Or.inr ⟨by decide, rfl, by omega, Gr.rf.szU hs⟩)

theorem c_k_needState (hz : z = 0 ∨ z = 1) : Call E mX1_needState 7 1 6 [vI z] w (qUX (fun w' => z = 1 ∧ w' = w) (fun k w' => k = 3 ∧ z = 0 ∧ Gr NoP w w')) := by
  refine call_of (av := [(0, z)]) (by decide +kernel) rfl (Nat.le_of_ble_eq_true rfl) ?_
  intro X hX hF hname
  show GG X 1 6 w 0 [(0, z)] []
  refine g_iload_n (pc' := 1) hX dX1_needState_0 rfl rfl ?_
  refine g_if_ne (pc' := 4) (tgt := 12) hX dX1_needState_1 (by decide) rfl (by omega) (fun h1 => ?_) (fun h1 => ?_)
  · skip
    exact g_retUX hX hF dX1_needState_12 ⟨by omega, rfl⟩
  · skip
    refine g_throw0 hX hF (k := 3) (by decide) lt_is dX1_needState_4 dX1_needState_7 dX1_needState_8 dX1_needState_11 (by decide) (by decide) (by decide) (Nat.le_of_ble_eq_true rfl) (fun s hs => Or.inr ⟨by decide, rfl, by omega, Gr.rf.szU hs⟩)

theorem c_k_isRow (hX0 : XI E xo b w) (hf : rdw w xo 0 = v) (hv : 0 ≤ v ∧ v ≤ 100) (bi : -2147483648 ≤ i ∧ i ≤ 2147483647) : Call E mX1_isRow 1 0 0 [vR xo, vI i] w (qE (if 0 ≤ i ∧ i ≤ v - 1 then 1 else 0) w) := by
  refine call_of (av := [(1, xo), (0, i)]) (by decide +kernel) rfl (Nat.le_of_ble_eq_true rfl) ?_
  intro X hX hF hname
  show GG X 0 0 w 0 [(1, xo), (0, i)] []
  refine g_iload_n (pc' := 1) hX dX1_isRow_0 rfl rfl ?_
  refine g_i2l (pc' := 2) hX dX1_isRow_1 (by omega) rfl ?_
  refine g_lconst (pc' := 3) (v := 0) hX dX1_isRow_2 rfl rfl ?_
  refine g_aload_n (pc' := 4) hX dX1_isRow_3 rfl rfl ?_
  refine gf_X1_7 (pc' := 7) hX dX1_isRow_4 hX0.h0 hX0.hk rfl ?_
  rw [hf]
  refine g_iconst (pc' := 8) hX dX1_isRow_7 rfl ?_
  refine g_isub (pc' := 9) hX dX1_isRow_8 rfl ?_
  refine g_i2l (pc' := 10) hX dX1_isRow_9 (by omega) rfl ?_
  refine gS3E0 (pc' := 13) hX dX1_isRow_10 ml_X1_127 (c_k_isIn (by omega) (by omega) (by omega)) (Nat.le_of_ble_eq_true rfl) (by decide) rfl ?_
  exact g_retEZ hX hF dX1_isRow_13 (by split <;> omega) rfl rfl

theorem c_k_isReal (hX0 : XI E xo b w) (hf : rdw w xo 1 = v) (hv : 0 ≤ v ∧ v ≤ 100) (bi : -2147483648 ≤ i ∧ i ≤ 2147483647) : Call E mX1_isReal 1 0 0 [vR xo, vI i] w (qE (if 0 ≤ i ∧ i ≤ v - 1 then 1 else 0) w) := by
  refine call_of (av := [(1, xo), (0, i)]) (by decide +kernel) rfl (Nat.le_of_ble_eq_true rfl) ?_
  intro X hX hF hname
  show GG X 0 0 w 0 [(1, xo), (0, i)] []
  refine g_iload_n (pc' := 1) hX dX1_isReal_0 rfl rfl ?_
  refine g_i2l (pc' := 2) hX dX1_isReal_1 (by omega) rfl ?_
  refine g_lconst (pc' := 3) (v := 0) hX dX1_isReal_2 rfl rfl ?_
  refine g_aload_n (pc' := 4) hX dX1_isReal_3 rfl rfl ?_
  refine gf_X1_13 (pc' := 7) hX dX1_isReal_4 hX0.h0 hX0.hk rfl ?_
  rw [hf]
  refine g_iconst (pc' := 8) hX dX1_isReal_7 rfl ?_
  refine g_isub (pc' := 9) hX dX1_isReal_8 rfl ?_
  refine g_i2l (pc' := 10) hX dX1_isReal_9 (by omega) rfl ?_
  refine gS3E0 (pc' := 13) hX dX1_isReal_10 ml_X1_127 (c_k_isIn (by omega) (by omega) (by omega)) (Nat.le_of_ble_eq_true rfl) (by decide) rfl ?_
  exact g_retEZ hX hF dX1_isReal_13 (by split <;> omega) rfl rfl

theorem c_k_held (hX0 : XI E xo b w) (hf : rdw w xo 2 = T) (hT : TB E w T r c h) (hi : 0 ≤ i ∧ i < r) (hj : 0 ≤ j ∧ j < c) : Call E mX1_held 3 0 0 [vR xo, vI i, vI j] w (qE (h i j) w) := by
  refine call_of (av := [(1, xo), (0, i), (0, j)]) (by decide +kernel) rfl (Nat.le_of_ble_eq_true rfl) ?_
  intro X hX hF hname
  show GG X 0 0 w 0 [(1, xo), (0, i), (0, j)] []
  refine g_aload_n (pc' := 1) hX dX1_held_0 rfl rfl ?_
  refine gf_X1_20 (pc' := 4) hX dX1_held_1 hX0.h0 hX0.hk rfl ?_
  rw [hf]
  refine g_iload_n (pc' := 5) hX dX1_held_4 rfl rfl ?_
  refine gV1EA0 (pc' := 8) hX dX1_held_5 ml_X1_131 gc_J2 hT.1.h0 hT.1.1.2.1 (c_j_get hT.1 hi) (Nat.le_of_ble_eq_true rfl) (by decide) rfl ?_
  refine g_cast (pc' := 11) hX dX1_held_8 gc_J2 q104 (hT.2.1 i hi.1 hi.2).1.h0 (hT.2.1 i hi.1 hi.2).1.1.2.1 rfl ?_
  refine g_iload_n (pc' := 12) hX dX1_held_11 rfl rfl ?_
  refine gV1EA0 (pc' := 15) hX dX1_held_12 ml_X1_131 gc_J2 (hT.2.1 i hi.1 hi.2).1.h0 (hT.2.1 i hi.1 hi.2).1.1.2.1 (c_j_get (hT.2.1 i hi.1 hi.2).1 hj) (Nat.le_of_ble_eq_true rfl) (by decide) rfl ?_
  refine g_cast (pc' := 18) hX dX1_held_15 gc_J4 q475 (hT.2.2.1 i j hi.1 hi.2 hj.1 hj.2).1.1 (hT.2.2.1 i j hi.1 hi.2 hj.1 hj.2).1.2.1 rfl ?_
  refine gV0E0 (pc' := 21) hX dX1_held_18 ml_X1_135 gc_J4 (hT.2.2.1 i j hi.1 hi.2 hj.1 hj.2).1.1 (hT.2.2.1 i j hi.1 hi.2 hj.1 hj.2).1.2.1 (c_j_intValue (hT.2.2.1 i j hi.1 hi.2 hj.1 hj.2).1) (Nat.le_of_ble_eq_true rfl) (by decide) rfl ?_
  exact g_retE hX hF dX1_held_21 (rfl) rfl

theorem c_k_costIn (hX0 : XI E xo b w) (hT : TB E w T r c h) (hi : 0 ≤ i ∧ i < r) (hj0 : 0 ≤ j ∧ j ≤ 100) (hc : 0 ≤ c ∧ c ≤ 100) (hb : ∀ i j : Int, 0 ≤ i → i < r → 0 ≤ j → j < c → -100 ≤ h i j ∧ h i j ≤ 99) : Call E mX1_costIn 3 0 0 [vR xo, vR T, vI c, vI i, vI j] w (qE (tC c h i j) w) := by
  refine call_of (av := [(1, xo), (1, T), (0, c), (0, i), (0, j)]) (by decide +kernel) rfl (Nat.le_of_ble_eq_true rfl) ?_
  intro X hX hF hname
  show GG X 0 0 w 0 [(1, xo), (1, T), (0, c), (0, i), (0, j)] []
  have hF0 := hF
  refine g_iload (pc' := 2) hX dX1_costIn_0 rfl rfl ?_
  refine g_iload_n (pc' := 3) hX dX1_costIn_2 rfl rfl ?_
  refine g_icmp_ge (pc' := 6) (tgt := 31) hX dX1_costIn_3 (by decide) rfl (by omega) (by omega) (fun h3 => ?_) (fun h3 => ?_)
  · skip
    refine g_iconst (pc' := 32) hX dX1_costIn_31 rfl ?_
    exact g_retE hX hF dX1_costIn_32 (by unfold tC; (repeat' split) <;> omega) rfl
  · skip
    have hj : 0 ≤ j ∧ j < c := by omega
    have hbb := hb i j hi.1 hi.2 hj.1 hj.2
    refine g_aload_n (pc' := 7) hX dX1_costIn_6 rfl rfl ?_
    refine g_iload_n (pc' := 8) hX dX1_costIn_7 rfl rfl ?_
    refine gV1EA0 (pc' := 11) hX dX1_costIn_8 ml_X1_131 gc_J2 hT.1.h0 hT.1.1.2.1 (c_j_get hT.1 hi) (Nat.le_of_ble_eq_true rfl) (by decide) rfl ?_
    refine g_cast (pc' := 14) hX dX1_costIn_11 gc_J2 q104 (hT.2.1 i hi.1 hi.2).1.h0 (hT.2.1 i hi.1 hi.2).1.1.2.1 rfl ?_
    refine g_iload (pc' := 16) hX dX1_costIn_14 rfl rfl ?_
    refine gV1EA0 (pc' := 19) hX dX1_costIn_16 ml_X1_131 gc_J2 (hT.2.1 i hi.1 hi.2).1.h0 (hT.2.1 i hi.1 hi.2).1.1.2.1 (c_j_get (hT.2.1 i hi.1 hi.2).1 hj) (Nat.le_of_ble_eq_true rfl) (by decide) rfl ?_
    refine g_cast (pc' := 22) hX dX1_costIn_19 gc_J4 q475 (hT.2.2.1 i j hi.1 hi.2 hj.1 hj.2).1.1 (hT.2.2.1 i j hi.1 hi.2 hj.1 hj.2).1.2.1 rfl ?_
    refine gV0E0 (pc' := 25) hX dX1_costIn_22 ml_X1_135 gc_J4 (hT.2.2.1 i j hi.1 hi.2 hj.1 hj.2).1.1 (hT.2.2.1 i j hi.1 hi.2 hj.1 hj.2).1.2.1 (c_j_intValue (hT.2.2.1 i j hi.1 hi.2 hj.1 hj.2).1) (Nat.le_of_ble_eq_true rfl) (by decide) rfl ?_
    refine gS1E0 (pc' := 28) hX dX1_costIn_25 ml_X1_139 (c_k_costOf (by omega)) (Nat.le_of_ble_eq_true rfl) (by decide) rfl ?_
    refine g_goto (tgt := 32) hX dX1_costIn_28 (by decide) ?_
    exact g_retE hX hF dX1_costIn_32 (by unfold tC; (repeat' split) <;> omega) rfl

theorem c_k_costHere (hX0 : XI E xo b w) (hT : XT E xo n m h sn sm sh w) (hi : 0 ≤ i ∧ i < n) (hj : 0 ≤ j ∧ j ≤ 100) : Call E mX1_costHere 4 0 0 [vR xo, vI i, vI j] w (qE (tC m h i j) w) := by
  refine call_of (av := [(1, xo), (0, i), (0, j)]) (by decide +kernel) rfl (Nat.le_of_ble_eq_true rfl) ?_
  intro X hX hF hname
  show GG X 0 0 w 0 [(1, xo), (0, i), (0, j)] []
  refine g_aload_n (pc' := 1) hX dX1_costHere_0 rfl rfl ?_
  refine g_aload_n (pc' := 2) hX dX1_costHere_1 rfl rfl ?_
  refine gf_X1_20 (pc' := 5) hX dX1_costHere_2 hX0.h0 hX0.hk rfl ?_
  skip
  refine g_aload_n (pc' := 6) hX dX1_costHere_5 rfl rfl ?_
  refine gf_X1_13 (pc' := 9) hX dX1_costHere_6 hX0.h0 hX0.hk rfl ?_
  rw [hT.1.1.2.1]
  refine g_iload_n (pc' := 10) hX dX1_costHere_9 rfl rfl ?_
  refine g_iload_n (pc' := 11) hX dX1_costHere_10 rfl rfl ?_
  refine gV4E0 (pc' := 14) hX dX1_costHere_11 ml_X1_143 gc_X1 hX0.h0 hX0.hk (c_k_costIn hX0 hT.2.1.1 hi hj (by have := hT.1.2.1; omega) hT.2.2.1) (Nat.le_of_ble_eq_true rfl) (by decide) rfl ?_
  exact g_retE hX hF dX1_costHere_14 (rfl) rfl

theorem c_k_rows (hX0 : XI E xo b w) (hf : rdw w xo 0 = v) : Call E mX1_rows 0 0 0 [vR xo] w (qE v w) := by
  refine call_of (av := [(1, xo)]) (by decide +kernel) rfl (Nat.le_of_ble_eq_true rfl) ?_
  intro X hX hF hname
  show GG X 0 0 w 0 [(1, xo)] []
  refine g_aload_n (pc' := 1) hX dX1_rows_0 rfl rfl ?_
  refine gf_X1_7 (pc' := 4) hX dX1_rows_1 hX0.h0 hX0.hk rfl ?_
  rw [hf]
  exact g_retE hX hF dX1_rows_4 (rfl) rfl

theorem c_k_columns (hX0 : XI E xo b w) (hf : rdw w xo 1 = v) : Call E mX1_columns 0 0 0 [vR xo] w (qE v w) := by
  refine call_of (av := [(1, xo)]) (by decide +kernel) rfl (Nat.le_of_ble_eq_true rfl) ?_
  intro X hX hF hname
  show GG X 0 0 w 0 [(1, xo)] []
  refine g_aload_n (pc' := 1) hX dX1_columns_0 rfl rfl ?_
  refine gf_X1_13 (pc' := 4) hX dX1_columns_1 hX0.h0 hX0.hk rfl ?_
  rw [hf]
  exact g_retE hX hF dX1_columns_4 (rfl) rfl

theorem XE.pq {C : Int → Int → Int} (H : XE E xo b n C e w) : ∃ (s : Int) (S : Int → Prop) (rk : Int → Int), PQ E w (b + 21) (b + 22) s S rk ∧ capP (lnw w (rdw w (b + 21) 0)) := by
  rcases H with ⟨-, -, s, S, rk, h1, h2⟩ | ⟨-, -, -, -, L, h1, -, h2, -⟩
  · exact ⟨s, S, rk, h1, h2⟩
  · exact ⟨_, _, _, h1, h2⟩
/-- what cancel writes -/
def ZC (E : Ev) (xo b : Int) (w : Wd) (a i : Int) : Prop := (a = xo ∧ 23 ≤ i ∧ i ≤ 25) ∨ a = b + 21 ∨ (kdw w a = pk b ∧ (eB E : Int) ≤ a)
theorem c_k_cancel {C : Int → Int → Int} (hX0 : XI E xo b w) (hE : XE E xo b n C e w) : Call E mX1_cancel 1 0 0 [vR xo] w (qU (fun w' => Gr (ZC E xo b w) w w' ∧ ∀ (n2 : Int) (C2 : Int → Int → Int) (x : En), XE E xo b n2 C2 x.off w')) := by
  refine call_of (av := [(1, xo)]) (by decide +kernel) rfl (Nat.le_of_ble_eq_true rfl) ?_
  intro X hX hF hname
  show GG X 0 0 w 0 [(1, xo)] []
  have hb0 := hX0.1.2.1
  have hbz := hX0.b0
  have h21 : rdw w xo 20 = b + 21 := hX0.f 20 (by omega) rfl
  have hk21 : kdw w (b + 21) = 9 := hX0.kk 21 (by omega) rfl
  have hxk := hX0.hk
  obtain ⟨s, S, rk, hQ, hcap⟩ := hE.pq
  have hka : kdw w (rdw w (b + 21) 0) = pk b := hQ.2.1.2.1
  have hne : rdw w (b + 21) 0 ≠ xo := kd_ne hka hxk (by unfold pk; omega)
  have hF3 : Fr (fun a i => a = xo ∧ 23 ≤ i ∧ i ≤ 25) w (upw (upw (upw w xo 23 0) xo 24 0) xo 25 0) := ((Fr.rf.up (by omega)).up (by omega)).up (by omega)
  have hQ3 := hQ.gr hF3.gr (fun i z => by omega) (fun i z => hne z.1)
  refine g_aload_n (pc' := 1) hX dX1_cancel_0 rfl rfl ?_
  refine g_iconst (pc' := 2) hX dX1_cancel_1 rfl ?_
  refine pf_X1_147 (pc' := 5) hX dX1_cancel_2 (by omega) hX0.hb hX0.hk rfl ?_
  skip
  refine g_aload_n (pc' := 6) hX dX1_cancel_5 rfl rfl ?_
  refine g_iconst (pc' := 7) hX dX1_cancel_6 rfl ?_
  refine pf_X1_151 (pc' := 10) hX dX1_cancel_7 hX0.hb hX0.hk rfl ?_
  skip
  refine g_aload_n (pc' := 11) hX dX1_cancel_10 rfl rfl ?_
  refine g_iconst (pc' := 12) hX dX1_cancel_11 rfl ?_
  refine pf_X1_154 (pc' := 15) hX dX1_cancel_12 hX0.hb hX0.hk rfl ?_
  skip
  refine g_aload_n (pc' := 16) hX dX1_cancel_15 rfl rfl ?_
  refine gf_X1_85 (pc' := 19) hX dX1_cancel_16 hX0.h0 hX0.hk rfl ?_
  repeat rw [rd_up_ne (by omega)]
  rw [h21]
  refine gV0U0 (pc' := 22) hX dX1_cancel_19 ml_X1_157 gc_J9 (by omega) (by rw [kd_up, kd_up, kd_up]; exact hk21) (c_j_clear hQ3.1) (Nat.le_of_ble_eq_true rfl) (by decide) rfl (fun w19 q19 => ?_)
  refine g_retU hX hF dX1_cancel_22 ⟨?_, fun n2 C2 x => Or.inl ⟨rfl, ?_, 0, _, _, q19.1, ?_⟩⟩
  · refine (hF3.gr.wk (fun a i z => Or.inl z)).tr (q19.2.2.gr.wk (fun a i z => ?_))
    rcases z with z | z
    · exact Or.inr (Or.inl z)
    · refine Or.inr (Or.inr ?_)
      rw [z, hQ3.2]; exact ⟨hka, hQ.2.1.1⟩
  · rw [q19.2.2.rd _ _ (fun z => ?_), rd_up_ne (by omega), rd_up_ne (by omega), rd_up_eq ⟨rfl, rfl⟩]
    rcases z with z | z
    · omega
    · rw [hQ3.2] at z; exact hne z.symm
  · rw [q19.2.1, q19.2.2.ln, hQ3.2]
    exact hcap

/-- behind a cancel all is in order again -/
theorem XX.can {w' : Wd} {x : En} (hX : XI E xo b w) (hO : OW E w) (hT : XT E xo n m h sn sm sh w) (hQ : XQ E b w) (hG : Gr (ZC E xo b w) w w') (hE : ∀ (n2 : Int) (C2 : Int → Int → Int) (x : En), XE E xo b n2 C2 x.off w') : XX E xo b n m h sn sm sh x.off w' := by
  have hbb := hX.hbb
  have hxb := hX.1.2.1
  have hb0 := hX.b0
  have hlo : ∀ a i, ZC E xo b w a i → (eB E : Int) ≤ a := fun a i z => by
    rcases z with z | z | z
    · rw [z.1]; exact hX.hb
    · omega
    · exact z.2
  have hk : ∀ k : Int, 0 ≤ k → k ≤ 31 → ∀ i, k ≠ 21 → k ≠ 23 → ¬ ZC E xo b w (b + k) i := fun k k0 k1 i n1 n2 z => by
    rcases z with z | z | z
    · omega
    · omega
    · have z := z.1
      rw [hX.2.1 k k0 k1] at z
      revert z
      unfold xK qk pk
      (repeat' split) <;> omega
  have hkd : ∀ a i (q : Nat), kdw w a = q → q ≠ 1 → q ≠ 9 → q ≠ pk b → ¬ ZC E xo b w a i := fun a i q hq n1 n9 np z => by
    rcases z with z | z | z
    · rw [z.1, hX.hk] at hq; omega
    · rw [z, hX.kk 21 (by omega) (c := 9) rfl] at hq; omega
    · have := z.1; omega
  refine ⟨hX.gr hG (fun i z => ?_) (fun i => by have := hk 0 (by omega) (by omega) i (by omega) (by omega); rwa [Int.add_zero] at this) (fun i => hk 24 (by omega) (by omega) i (by omega) (by omega)), hO.gr hG hlo, hT.gr hX hO hG (fun a i z => ⟨hlo a i z, Or.inl ?_⟩) (fun i z => ?_), hQ.gr hG (fun i => hk 15 (by omega) (by omega) i (by omega) (by omega)) (fun a i hq => hkd a i _ hq (by unfold qk; omega) (by unfold qk; omega) (by unfold qk pk; omega)) (fun a i hq => hkd a i _ hq (by omega) (by omega) (by unfold pk; omega)), hE _ _ x⟩
  · rcases z with z | z | z
    · omega
    · omega
    · have z := z.1
      rw [hX.hk] at z; unfold pk at z; omega
  · rcases z with z | z | z
    · exact Or.inl z.1
    · exact Or.inr (Or.inl (by omega))
    · exact Or.inr (Or.inr (Or.inr z.1))
  · rcases z with z | z | z
    · omega
    · omega
    · have z := z.1
      rw [hX.hk] at z; unfold pk at z; omega
theorem ZC.zx (hX : XI E xo b w) {a i : Int} (z : ZC E xo b w a i) : ZX xo b w a := by
  rcases z with z | z | z
  · exact Or.inl (Or.inl z.1)
  · exact Or.inl (Or.inr (by omega))
  · exact Or.inr (Or.inr (by rw [z.1]; unfold pk; omega))
end K2S
