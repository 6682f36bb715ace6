/-! THE COMPONENT: changes of the table, cell by cell (by gen/spec_k5.py) -/
set_option maxRecDepth 100000
set_option maxHeartbeats 4000000
section R11
variable {X : Cx} {E : Ev} {own : String} {cc : ByteArray} {nL d bc bs : Nat} {w : Wd} {pc pc' : Nat} {lv : List (Nat × Int)} {st : List Value}
theorem g_istore_11 {q0 q1 q2 q3 q4 q5 q6 q7 q8 q9 q10 : Nat × Int} {q : Nat × Int} {r : List (Nat × Int)} {x : Int} (h : Ok X E own cc nL d) (dg : decode cc pc = .ok (.istore 11, 2)) (hn : 11 < nL) (hb : lvB (q0 :: q1 :: q2 :: q3 :: q4 :: q5 :: q6 :: q7 :: q8 :: q9 :: q10 :: q :: r) 11 = true) (hp : pc + 2 = pc') (k : GG X bc bs w pc' (q0 :: q1 :: q2 :: q3 :: q4 :: q5 :: q6 :: q7 :: q8 :: q9 :: q10 :: (0, x) :: r) st) : GG X bc bs w pc (q0 :: q1 :: q2 :: q3 :: q4 :: q5 :: q6 :: q7 :: q8 :: q9 :: q10 :: q :: r) (vI x :: st) := g_istore_g h dg (by simp) hn hb hp k
theorem g_astore_11 {q0 q1 q2 q3 q4 q5 q6 q7 q8 q9 q10 : Nat × Int} {q : Nat × Int} {r : List (Nat × Int)} {x : Int} (h : Ok X E own cc nL d) (dg : decode cc pc = .ok (.astore 11, 2)) (hn : 11 < nL) (hb : lvB (q0 :: q1 :: q2 :: q3 :: q4 :: q5 :: q6 :: q7 :: q8 :: q9 :: q10 :: q :: r) 11 = true) (hp : pc + 2 = pc') (k : GG X bc bs w pc' (q0 :: q1 :: q2 :: q3 :: q4 :: q5 :: q6 :: q7 :: q8 :: q9 :: q10 :: (1, x) :: r) st) : GG X bc bs w pc (q0 :: q1 :: q2 :: q3 :: q4 :: q5 :: q6 :: q7 :: q8 :: q9 :: q10 :: q :: r) (vR x :: st) := g_astore_g h dg (by simp) hn hb hp k
theorem g_lstore_11 {q0 q1 q2 q3 q4 q5 q6 q7 q8 q9 q10 : Nat × Int} {q q' : Nat × Int} {r : List (Nat × Int)} {x : Int} (h : Ok X E own cc nL d) (dg : decode cc pc = .ok (.lstore 11, 2)) (hn : 11 + 1 < nL) (hb : lvB (q0 :: q1 :: q2 :: q3 :: q4 :: q5 :: q6 :: q7 :: q8 :: q9 :: q10 :: q :: q' :: r) 11 = true) (hp : pc + 2 = pc') (k : GG X bc bs w pc' (q0 :: q1 :: q2 :: q3 :: q4 :: q5 :: q6 :: q7 :: q8 :: q9 :: q10 :: (2, x) :: (9, 0) :: r) st) : GG X bc bs w pc (q0 :: q1 :: q2 :: q3 :: q4 :: q5 :: q6 :: q7 :: q8 :: q9 :: q10 :: q :: q' :: r) (vL x :: st) := g_lstore_g h dg (by simp) hn hb hp k
theorem g_dstore_11 {q0 q1 q2 q3 q4 q5 q6 q7 q8 q9 q10 : Nat × Int} {q q' : Nat × Int} {r : List (Nat × Int)} {x : Int} (h : Ok X E own cc nL d) (dg : decode cc pc = .ok (.dstore 11, 2)) (hn : 11 + 1 < nL) (hb : lvB (q0 :: q1 :: q2 :: q3 :: q4 :: q5 :: q6 :: q7 :: q8 :: q9 :: q10 :: q :: q' :: r) 11 = true) (hp : pc + 2 = pc') (k : GG X bc bs w pc' (q0 :: q1 :: q2 :: q3 :: q4 :: q5 :: q6 :: q7 :: q8 :: q9 :: q10 :: (4, x) :: (9, 0) :: r) st) : GG X bc bs w pc (q0 :: q1 :: q2 :: q3 :: q4 :: q5 :: q6 :: q7 :: q8 :: q9 :: q10 :: q :: q' :: r) (vD x :: st) := g_dstore_g h dg (by simp) hn hb hp k
theorem g_iinc_11 {q0 q1 q2 q3 q4 q5 q6 q7 q8 q9 q10 : Nat × Int} {r : List (Nat × Int)} {n x : Int} (h : Ok X E own cc nL d) (dg : decode cc pc = .ok (.iinc 11 n, 3)) (hn : 11 < nL) (hb : lvB (q0 :: q1 :: q2 :: q3 :: q4 :: q5 :: q6 :: q7 :: q8 :: q9 :: q10 :: (0, x) :: r) 11 = true) (hp : pc + 3 = pc') (k : GG X bc bs w pc' (q0 :: q1 :: q2 :: q3 :: q4 :: q5 :: q6 :: q7 :: q8 :: q9 :: q10 :: (0, x + n) :: r) st) : GG X bc bs w pc (q0 :: q1 :: q2 :: q3 :: q4 :: q5 :: q6 :: q7 :: q8 :: q9 :: q10 :: (0, x) :: r) st := g_iinc_g h dg rfl (by simp) hn hb hp k
end R11
section K5S
variable {E : Ev} {w w0 u u' : Wd} {P : Int → Int → Prop} {T R r c n m sn sm l i j k v a z xo b it x n0 p : Int} {h h' sh C0 : Int → Int → Int} {f : Int → Int} {e : En}
theorem YY.setR (H : YY E xo b n m h sn sm sh n0 C0 e u) (hR : el u (rdw u xo 2) i = R) (hi : 0 ≤ i ∧ i < n) (hj : 0 ≤ j ∧ j < m) (hv : bx u v x ∧ v < eB E) (hx : -100 ≤ x ∧ x ≤ 99) : YY E xo b n m (fun a q => if a = i ∧ q = j then x else h a q) sn sm sh n0 C0 e (upw u (rdw u R 1) j v) ∧ Gr (fun a _ => ZX xo b u a) u (upw u (rdw u R 1) j v) ∧ rdw (upw u (rdw u R 1) j v) xo 2 = rdw u xo 2 ∧ (∀ k : Int, 0 ≤ k → k < n → el (upw u (rdw u R 1) j v) (rdw u xo 2) k = el u (rdw u xo 2) k) := by
  subst hR
  exact H.set hi hj hv hx
theorem OWval (hO : OW E u) (hx : -128 ≤ x ∧ x ≤ 127) : bx u (rdw u (eI E : Int) (x + 128)) x ∧ rdw u (eI E : Int) (x + 128) < eB E := ⟨hO.bx hx, (hO.2 (x + 128) (by omega) (by omega)).2⟩
/-- a row of the held table -/
theorem YY.row (H : YY E xo b n m h sn sm sh n0 C0 e u) (hi : 0 ≤ i ∧ i < n) : AL E u (el u (rdw u xo 2) i) m ∧ ∀ j : Int, 0 ≤ j → j < m → bx u (el u (el u (rdw u xo 2) i) j) (h i j) ∧ (-100 ≤ h i j ∧ h i j ≤ 99) :=
  ⟨(H.2.2.1.2.1.1.2.1 i hi.1 hi.2).1, fun j j0 j1 => ⟨(H.2.2.1.2.1.1.2.2.1 i j hi.1 hi.2 j0 j1).1, H.2.2.1.2.2.1 i j hi.1 hi.2 j0 j1⟩⟩
theorem hh_set {r c v x : Int} (hx : x = hhd v (hfg (h r c))) (i j : Int) : (if i = r ∧ j = c then hhd v (hfg (h i j)) else h i j) = (if i = r ∧ j = c then x else h i j) := by
  by_cases he : i = r ∧ j = c
  · simp only [if_pos he]; rw [he.1, he.2, hx]
  · simp only [if_neg he]
theorem hh_fb {r c v x : Int} (hx : x = hhd (hno (h r c)) v) (i j : Int) : (if i = r ∧ j = c then hhd (hno (h i j)) v else h i j) = (if i = r ∧ j = c then x else h i j) := by
  by_cases he : i = r ∧ j = c
  · simp only [if_pos he]; rw [he.1, he.2, hx]
  · simp only [if_neg he]
theorem hhd_x {x y : Int} : hhd x (hfg y) = if y < 0 then -1 - x else x := by unfold hhd hfg; (repeat' split) <;> omega
theorem c_x_setCost (hH : XX E xo b n m h sn sm sh e w) (br : -2147483648 ≤ r ∧ r ≤ 2147483647) (bc : -2147483648 ≤ c ∧ c ≤ 2147483647) (bv : -2147483648 ≤ v ∧ v ≤ 2147483647)  : Call E mX1_setCost 8 3 18 [vR xo, vI r, vI c, vI v] w (qC (if ¬ (0 ≤ r ∧ r ≤ n - 1 ∧ 0 ≤ c ∧ c ≤ m - 1) then 1 else if ¬ (0 ≤ v ∧ v ≤ 99) then 2 else 0) (hno (h r c)) (fun w' => XX E xo b n m (fun i j => if i = r ∧ j = c then hhd v (hfg (h i j)) else h i j) sn sm sh e.off w' ∧ Gr (fun a _ => ZX xo b w a) w w') w) := by
  refine call_of (av := [(1, xo), (0, r), (0, c), (0, v)]) (by decide +kernel) rfl (Nat.le_of_ble_eq_true rfl) ?_
  intro X hX hF hname
  show GG X 3 18 w 0 [(1, xo), (0, r), (0, c), (0, v), (9, 0), (9, 0)] []
  have hb := hH.2.2.1.1.2
  have hT1 := hH.2.2.1.2.1.1
  refine g_aload_n (pc' := 1) hX dX1_setCost_0 rfl rfl ?_
  refine g_iload_n (pc' := 2) hX dX1_setCost_1 rfl rfl ?_
  refine gV1E0 (pc' := 5) hX dX1_setCost_2 ml_X1_169 gc_X1 hH.1.h0 hH.1.hk (c_k_isRow hH.1 hH.2.2.1.1.1.1 (by omega) (by omega)) (Nat.le_of_ble_eq_true rfl) (by decide) rfl ?_
  refine g_if_eq (pc' := 8) (tgt := 20) hX dX1_setCost_5 (by decide) rfl (by omega) (fun h5 => ?_) (fun h5 => ?_)
  · skip
    refine g_iconst (pc' := 21) hX dX1_setCost_20 rfl ?_
    refine gS1UX (pc' := 24) hX dX1_setCost_21 ml_X1_176 (c_k_needPlace (by omega)) (Nat.le_of_ble_eq_true rfl) (by decide) ⟨by omega, by omega⟩ rfl (fun w2 q => absurd q.1 (by decide)) (fun k2 w2 hk0 hq => ?_)
    obtain ⟨rfl, hz21, hG21⟩ := hq
    exact g_outX hX hF hk0 ⟨by (repeat' split) <;> omega, hG21⟩
  · skip
    refine g_aload_n (pc' := 9) hX dX1_setCost_8 rfl rfl ?_
    refine g_iload_n (pc' := 10) hX dX1_setCost_9 rfl rfl ?_
    refine gV1E0 (pc' := 13) hX dX1_setCost_10 ml_X1_173 gc_X1 hH.1.h0 hH.1.hk (c_k_isReal hH.1 hH.2.2.1.1.1.2.1 (by omega) (by omega)) (Nat.le_of_ble_eq_true rfl) (by decide) rfl ?_
    refine g_if_eq (pc' := 16) (tgt := 20) hX dX1_setCost_13 (by decide) rfl (by omega) (fun h13 => ?_) (fun h13 => ?_)
    · skip
      refine g_iconst (pc' := 21) hX dX1_setCost_20 rfl ?_
      refine gS1UX (pc' := 24) hX dX1_setCost_21 ml_X1_176 (c_k_needPlace (by omega)) (Nat.le_of_ble_eq_true rfl) (by decide) ⟨by omega, by omega⟩ rfl (fun w2 q => absurd q.1 (by decide)) (fun k2 w2 hk0 hq => ?_)
      obtain ⟨rfl, hz21, hG21⟩ := hq
      exact g_outX hX hF hk0 ⟨by (repeat' split) <;> omega, hG21⟩
    · skip
      refine g_iconst (pc' := 17) hX dX1_setCost_16 rfl ?_
      refine g_goto (tgt := 21) hX dX1_setCost_17 (by decide) ?_
      refine gS1UX (pc' := 24) hX dX1_setCost_21 ml_X1_176 (c_k_needPlace (by omega)) (Nat.le_of_ble_eq_true rfl) (by decide) ⟨by omega, by omega⟩ rfl (fun w21 q21 => ?_) (fun k2 w2 hk0 hq => absurd hq.2.1 (by decide))
      obtain ⟨-, hw21⟩ := q21
      rw [hw21]
      refine g_iload_n (pc' := 25) hX dX1_setCost_24 rfl rfl ?_
      refine g_i2l (pc' := 26) hX dX1_setCost_25 (by omega) rfl ?_
      refine g_lconst (pc' := 27) (v := 0) hX dX1_setCost_26 rfl rfl ?_
      refine g_ldc2 (pc' := 30) (n := 99) hX dX1_setCost_27 q1049 rfl rfl ?_
      refine gS3E0 (pc' := 33) hX dX1_setCost_30 ml_X1_127 (c_k_isIn (by omega) (by omega) (by omega)) (Nat.le_of_ble_eq_true rfl) (by decide) rfl ?_
      refine gS1UX (pc' := 36) hX dX1_setCost_33 ml_X1_162 (c_k_needNumber (by omega)) (Nat.le_of_ble_eq_true rfl) (by decide) ⟨by omega, by omega⟩ rfl (fun w33 q33 => ?_) (fun k2 w2 hk0 hq => by
        obtain ⟨rfl, hz33, hG33⟩ := hq
        exact g_outX hX hF hk0 ⟨by (repeat' split) <;> omega, hG33⟩)
      obtain ⟨hz33, hw33⟩ := q33
      rw [hw33]
      refine g_aload_n (pc' := 37) hX dX1_setCost_36 rfl rfl ?_
      refine gf_X1_20 (pc' := 40) hX dX1_setCost_37 hH.1.h0 hH.1.hk rfl ?_
      refine g_iload_n (pc' := 41) hX dX1_setCost_40 rfl rfl ?_
      refine gV1EA0 (pc' := 44) hX dX1_setCost_41 ml_X1_131 gc_J2 hT1.1.h0 hT1.1.1.2.1 (c_j_get hT1.1 (by omega)) (Nat.le_of_ble_eq_true rfl) (by decide) rfl ?_
      have hrow := hH.yy.row (i := r) (by omega)
      refine g_cast (pc' := 47) hX dX1_setCost_44 gc_J2 q104 hrow.1.h0 hrow.1.1.2.1 rfl ?_
      refine g_astore_4 (pc' := 49) hX dX1_setCost_47 (by decide) rfl rfl ?_
      refine g_aload (pc' := 51) hX dX1_setCost_49 rfl rfl ?_
      refine g_iload_n (pc' := 52) hX dX1_setCost_51 rfl rfl ?_
      refine gV1EA0 (pc' := 55) hX dX1_setCost_52 ml_X1_131 gc_J2 hrow.1.h0 hrow.1.1.2.1 (c_j_get hrow.1 (by omega)) (Nat.le_of_ble_eq_true rfl) (by decide) rfl ?_
      have hbx := hrow.2 c (by omega) (by omega)
      refine g_cast (pc' := 58) hX dX1_setCost_55 gc_J4 q475 hbx.1.1 hbx.1.2.1 rfl ?_
      refine gV0E0 (pc' := 61) hX dX1_setCost_58 ml_X1_135 gc_J4 hbx.1.1 hbx.1.2.1 (c_j_intValue hbx.1) (Nat.le_of_ble_eq_true rfl) (by decide) rfl ?_
      refine g_istore_5 (pc' := 63) hX dX1_setCost_61 (by decide) rfl rfl ?_
      refine g_aload (pc' := 65) hX dX1_setCost_63 rfl rfl ?_
      refine g_iload_n (pc' := 66) hX dX1_setCost_65 rfl rfl ?_
      refine g_iload (pc' := 68) hX dX1_setCost_66 rfl rfl ?_
      refine g_if_ge (pc' := 71) (tgt := 77) hX dX1_setCost_68 (by decide) rfl (by omega) (fun h68 => ?_) (fun h68 => ?_)
      · skip
        refine g_iload_n (pc' := 78) hX dX1_setCost_77 rfl rfl ?_
        refine gS1EA0 (pc' := 81) hX dX1_setCost_78 ml_X1_94 (c_j_valueOf hH.2.1 (by omega)) (Nat.le_of_ble_eq_true rfl) (by decide) rfl ?_
        refine gV2EA0 (pc' := 84) hX dX1_setCost_81 ml_X1_181 gc_J2 hrow.1.h0 hrow.1.1.2.1 (c_j_set hrow.1 (by omega) (okr_k (hH.2.1.bx (by omega)).2.1 (by omega))) (Nat.le_of_ble_eq_true rfl) (by decide) rfl ?_
        first
          | have hs4 := hH.yy.setR (i := r) (x := -1 - v) (j := c) rfl (by omega) (by omega) (OWval hH.2.1 (show -128 ≤ -1 - v ∧ -1 - v ≤ 127 by omega)) (show (-100 ≤ -1 - v ∧ -1 - v ≤ 99) ∧ h r c < 0 by omega).1
            have hY := hs4.1.cg (fun i j _ _ _ _ => hh_set (v := v) (x := -1 - v) (r := r) (c := c) (h := h) (by rw [hhd_x, if_pos (by omega)]) i j)
          | have hs4 := hH.yy.setR (i := r) (x := v) (j := c) rfl (by omega) (by omega) (OWval hH.2.1 (show -128 ≤ v ∧ v ≤ 127 by omega)) (show -100 ≤ v ∧ v ≤ 99 by omega)
            have hY := hs4.1.cg (fun i j _ _ _ _ => hh_set (v := v) (x := v) (r := r) (c := c) (h := h) (by rw [hhd_x, if_neg (by omega)]) i j)
        have hGz := hs4.2.1
        clear hs4
        generalize upw w _ c _ = u1 at *
        refine g_pop (pc' := 85) hX dX1_setCost_84 (vR_cat _) rfl ?_
        refine g_aload_n (pc' := 86) hX dX1_setCost_85 rfl rfl ?_
        refine gV0U0 (pc' := 89) hX dX1_setCost_86 ml_X1_166 gc_X1 hY.1.h0 hY.1.hk (c_k_cancel hY.1 hY.2.2.2.2) (Nat.le_of_ble_eq_true rfl) (by decide) rfl (fun w86 q86 => ?_)
        have hF2 := hY.can hGz q86.1 q86.2
        refine g_iload (pc' := 91) hX dX1_setCost_89 rfl rfl ?_
        refine gS1E0 (pc' := 94) hX dX1_setCost_91 ml_X1_185 (c_k_numberOf (by omega)) (Nat.le_of_ble_eq_true rfl) (by decide) rfl ?_
        exact g_retIX hX hF dX1_setCost_94 ⟨by (repeat' split) <;> omega, rfl, hF2.1, hF2.2⟩
      · skip
        refine g_iconst (pc' := 72) hX dX1_setCost_71 rfl ?_
        refine g_iload_n (pc' := 73) hX dX1_setCost_72 rfl rfl ?_
        refine g_isub (pc' := 74) hX dX1_setCost_73 rfl ?_
        refine g_goto (tgt := 78) hX dX1_setCost_74 (by decide) ?_
        refine gS1EA0 (pc' := 81) hX dX1_setCost_78 ml_X1_94 (c_j_valueOf hH.2.1 (by omega)) (Nat.le_of_ble_eq_true rfl) (by decide) rfl ?_
        refine gV2EA0 (pc' := 84) hX dX1_setCost_81 ml_X1_181 gc_J2 hrow.1.h0 hrow.1.1.2.1 (c_j_set hrow.1 (by omega) (okr_k (hH.2.1.bx (by omega)).2.1 (by omega))) (Nat.le_of_ble_eq_true rfl) (by decide) rfl ?_
        first
          | have hs4 := hH.yy.setR (i := r) (x := -1 - v) (j := c) rfl (by omega) (by omega) (OWval hH.2.1 (show -128 ≤ -1 - v ∧ -1 - v ≤ 127 by omega)) (show (-100 ≤ -1 - v ∧ -1 - v ≤ 99) ∧ h r c < 0 by omega).1
            have hY := hs4.1.cg (fun i j _ _ _ _ => hh_set (v := v) (x := -1 - v) (r := r) (c := c) (h := h) (by rw [hhd_x, if_pos (by omega)]) i j)
          | have hs4 := hH.yy.setR (i := r) (x := v) (j := c) rfl (by omega) (by omega) (OWval hH.2.1 (show -128 ≤ v ∧ v ≤ 127 by omega)) (show -100 ≤ v ∧ v ≤ 99 by omega)
            have hY := hs4.1.cg (fun i j _ _ _ _ => hh_set (v := v) (x := v) (r := r) (c := c) (h := h) (by rw [hhd_x, if_neg (by omega)]) i j)
        have hGz := hs4.2.1
        clear hs4
        generalize upw w _ c _ = u1 at *
        refine g_pop (pc' := 85) hX dX1_setCost_84 (vR_cat _) rfl ?_
        refine g_aload_n (pc' := 86) hX dX1_setCost_85 rfl rfl ?_
        refine gV0U0 (pc' := 89) hX dX1_setCost_86 ml_X1_166 gc_X1 hY.1.h0 hY.1.hk (c_k_cancel hY.1 hY.2.2.2.2) (Nat.le_of_ble_eq_true rfl) (by decide) rfl (fun w86 q86 => ?_)
        have hF2 := hY.can hGz q86.1 q86.2
        refine g_iload (pc' := 91) hX dX1_setCost_89 rfl rfl ?_
        refine gS1E0 (pc' := 94) hX dX1_setCost_91 ml_X1_185 (c_k_numberOf (by omega)) (Nat.le_of_ble_eq_true rfl) (by decide) rfl ?_
        exact g_retIX hX hF dX1_setCost_94 ⟨by (repeat' split) <;> omega, rfl, hF2.1, hF2.2⟩

theorem c_x_setForbidden (hH : XX E xo b n m h sn sm sh e w) (br : -2147483648 ≤ r ∧ r ≤ 2147483647) (bc : -2147483648 ≤ c ∧ c ≤ 2147483647) (bv : -2147483648 ≤ v ∧ v ≤ 2147483647) (hv01 : v = 0 ∨ v = 1) : Call E mX1_setForbidden 8 10 50 [vR xo, vI r, vI c, vI v] w (qC (if ¬ (0 ≤ r ∧ r ≤ n - 1 ∧ 0 ≤ c ∧ c ≤ m - 1) then 1 else 0) (cF n m (fun i j => if i = r ∧ j = c then hhd (hno (h i j)) v else h i j)) (fun w' => XX E xo b n m (fun i j => if i = r ∧ j = c then hhd (hno (h i j)) v else h i j) sn sm sh e.off w' ∧ Gr (fun a _ => ZX xo b w a) w w') w) := by
  refine call_of (av := [(1, xo), (0, r), (0, c), (0, v)]) (by decide +kernel) rfl (Nat.le_of_ble_eq_true rfl) ?_
  intro X hX hF hname
  show GG X 10 50 w 0 [(1, xo), (0, r), (0, c), (0, v), (9, 0)] []
  have hb := hH.2.2.1.1.2
  have hT1 := hH.2.2.1.2.1.1
  refine g_aload_n (pc' := 1) hX dX1_setForbidden_0 rfl rfl ?_
  refine g_iload_n (pc' := 2) hX dX1_setForbidden_1 rfl rfl ?_
  refine gV1E0 (pc' := 5) hX dX1_setForbidden_2 ml_X1_169 gc_X1 hH.1.h0 hH.1.hk (c_k_isRow hH.1 hH.2.2.1.1.1.1 (by omega) (by omega)) (Nat.le_of_ble_eq_true rfl) (by decide) rfl ?_
  refine g_if_eq (pc' := 8) (tgt := 20) hX dX1_setForbidden_5 (by decide) rfl (by omega) (fun h5 => ?_) (fun h5 => ?_)
  · skip
    refine g_iconst (pc' := 21) hX dX1_setForbidden_20 rfl ?_
    refine gS1UX (pc' := 24) hX dX1_setForbidden_21 ml_X1_176 (c_k_needPlace (by omega)) (Nat.le_of_ble_eq_true rfl) (by decide) ⟨by omega, by omega⟩ rfl (fun w2 q => absurd q.1 (by decide)) (fun k2 w2 hk0 hq => ?_)
    obtain ⟨rfl, hz21, hG21⟩ := hq
    exact g_outX hX hF hk0 ⟨by (repeat' split) <;> omega, hG21⟩
  · skip
    refine g_aload_n (pc' := 9) hX dX1_setForbidden_8 rfl rfl ?_
    refine g_iload_n (pc' := 10) hX dX1_setForbidden_9 rfl rfl ?_
    refine gV1E0 (pc' := 13) hX dX1_setForbidden_10 ml_X1_173 gc_X1 hH.1.h0 hH.1.hk (c_k_isReal hH.1 hH.2.2.1.1.1.2.1 (by omega) (by omega)) (Nat.le_of_ble_eq_true rfl) (by decide) rfl ?_
    refine g_if_eq (pc' := 16) (tgt := 20) hX dX1_setForbidden_13 (by decide) rfl (by omega) (fun h13 => ?_) (fun h13 => ?_)
    · skip
      refine g_iconst (pc' := 21) hX dX1_setForbidden_20 rfl ?_
      refine gS1UX (pc' := 24) hX dX1_setForbidden_21 ml_X1_176 (c_k_needPlace (by omega)) (Nat.le_of_ble_eq_true rfl) (by decide) ⟨by omega, by omega⟩ rfl (fun w2 q => absurd q.1 (by decide)) (fun k2 w2 hk0 hq => ?_)
      obtain ⟨rfl, hz21, hG21⟩ := hq
      exact g_outX hX hF hk0 ⟨by (repeat' split) <;> omega, hG21⟩
    · skip
      refine g_iconst (pc' := 17) hX dX1_setForbidden_16 rfl ?_
      refine g_goto (tgt := 21) hX dX1_setForbidden_17 (by decide) ?_
      refine gS1UX (pc' := 24) hX dX1_setForbidden_21 ml_X1_176 (c_k_needPlace (by omega)) (Nat.le_of_ble_eq_true rfl) (by decide) ⟨by omega, by omega⟩ rfl (fun w21 q21 => ?_) (fun k2 w2 hk0 hq => absurd hq.2.1 (by decide))
      obtain ⟨-, hw21⟩ := q21
      rw [hw21]
      refine g_aload_n (pc' := 25) hX dX1_setForbidden_24 rfl rfl ?_
      refine g_iload_n (pc' := 26) hX dX1_setForbidden_25 rfl rfl ?_
      refine g_iload_n (pc' := 27) hX dX1_setForbidden_26 rfl rfl ?_
      refine gV2E0 (pc' := 30) hX dX1_setForbidden_27 ml_X1_198 gc_X1 hH.1.h0 hH.1.hk (c_k_held hH.1 rfl hT1 (by omega) (by omega)) (Nat.le_of_ble_eq_true rfl) (by decide) rfl ?_
      have hrow := hH.yy.row (i := r) (by omega)
      have hbb := (hrow.2 c (by omega) (by omega)).2
      have hnb := hno_b hbb
      refine gS1E0 (pc' := 33) hX dX1_setForbidden_30 ml_X1_185 (c_k_numberOf (by omega)) (Nat.le_of_ble_eq_true rfl) (by decide) rfl ?_
      refine g_istore_4 (pc' := 35) hX dX1_setForbidden_33 (by decide) rfl rfl ?_
      refine g_aload_n (pc' := 36) hX dX1_setForbidden_35 rfl rfl ?_
      refine gf_X1_20 (pc' := 39) hX dX1_setForbidden_36 hH.1.h0 hH.1.hk rfl ?_
      refine g_iload_n (pc' := 40) hX dX1_setForbidden_39 rfl rfl ?_
      refine gV1EA0 (pc' := 43) hX dX1_setForbidden_40 ml_X1_131 gc_J2 hT1.1.h0 hT1.1.1.2.1 (c_j_get hT1.1 (by omega)) (Nat.le_of_ble_eq_true rfl) (by decide) rfl ?_
      skip
      refine g_cast (pc' := 46) hX dX1_setForbidden_43 gc_J2 q104 hrow.1.h0 hrow.1.1.2.1 rfl ?_
      refine g_iload_n (pc' := 47) hX dX1_setForbidden_46 rfl rfl ?_
      refine g_iload_n (pc' := 48) hX dX1_setForbidden_47 rfl rfl ?_
      refine g_if_eq (pc' := 51) (tgt := 58) hX dX1_setForbidden_48 (by decide) rfl (by omega) (fun h48 => ?_) (fun h48 => ?_)
      · skip
        refine g_iload (pc' := 60) hX dX1_setForbidden_58 rfl rfl ?_
        refine gS1EA0 (pc' := 63) hX dX1_setForbidden_60 ml_X1_94 (c_j_valueOf hH.2.1 (by omega)) (Nat.le_of_ble_eq_true rfl) (by decide) rfl ?_
        refine gV2EA0 (pc' := 66) hX dX1_setForbidden_63 ml_X1_181 gc_J2 hrow.1.h0 hrow.1.1.2.1 (c_j_set hrow.1 (by omega) (okr_k (hH.2.1.bx (by omega)).2.1 (by omega))) (Nat.le_of_ble_eq_true rfl) (by decide) rfl ?_
        first
          | have hs4 := hH.yy.setR (i := r) (x := -1 - hno (h r c)) (j := c) rfl (by omega) (by omega) (OWval hH.2.1 (show -128 ≤ -1 - hno (h r c) ∧ -1 - hno (h r c) ≤ 127 by omega)) (show (-100 ≤ -1 - hno (h r c) ∧ -1 - hno (h r c) ≤ 99) ∧ v ≠ 0 by omega).1
            have hY := hs4.1.cg (fun i j _ _ _ _ => hh_fb (v := v) (x := -1 - hno (h r c)) (r := r) (c := c) (h := h) (by unfold hhd; rw [if_neg (by omega)]) i j)
          | have hs4 := hH.yy.setR (i := r) (x := hno (h r c)) (j := c) rfl (by omega) (by omega) (OWval hH.2.1 (show -128 ≤ hno (h r c) ∧ hno (h r c) ≤ 127 by omega)) (show -100 ≤ hno (h r c) ∧ hno (h r c) ≤ 99 by omega)
            have hY := hs4.1.cg (fun i j _ _ _ _ => hh_fb (v := v) (x := hno (h r c)) (r := r) (c := c) (h := h) (by unfold hhd; rw [if_pos (by omega)]) i j)
        have hGz := hs4.2.1
        clear hs4
        generalize upw w _ c _ = u1 at *
        refine g_pop (pc' := 67) hX dX1_setForbidden_66 (vR_cat _) rfl ?_
        refine g_aload_n (pc' := 68) hX dX1_setForbidden_67 rfl rfl ?_
        refine gV0U0 (pc' := 71) hX dX1_setForbidden_68 ml_X1_166 gc_X1 hY.1.h0 hY.1.hk (c_k_cancel hY.1 hY.2.2.2.2) (Nat.le_of_ble_eq_true rfl) (by decide) rfl (fun w68 q68 => ?_)
        have hF2 := hY.can hGz q68.1 q68.2
        refine g_aload_n (pc' := 72) hX dX1_setForbidden_71 rfl rfl ?_
        refine gV0I (pc' := 75) hX dX1_setForbidden_72 ml_X1_201 gc_X1 hF2.1.1.h0 hF2.1.1.hk (c_k_forbiddenCount hF2.1) (Nat.le_of_ble_eq_true rfl) (by decide) (by omega) rfl (fun r72 w72 q72 => ?_)
        obtain ⟨rfl, hG72⟩ := q72
        exact g_retIX hX hF dX1_setForbidden_75 ⟨by (repeat' split) <;> omega, rfl, hF2.1.nop hG72, GX.nop hF2.2 hG72⟩
      · skip
        refine g_iconst (pc' := 52) hX dX1_setForbidden_51 rfl ?_
        refine g_iload (pc' := 54) hX dX1_setForbidden_52 rfl rfl ?_
        refine g_isub (pc' := 55) hX dX1_setForbidden_54 rfl ?_
        refine g_goto (tgt := 60) hX dX1_setForbidden_55 (by decide) ?_
        refine gS1EA0 (pc' := 63) hX dX1_setForbidden_60 ml_X1_94 (c_j_valueOf hH.2.1 (by omega)) (Nat.le_of_ble_eq_true rfl) (by decide) rfl ?_
        refine gV2EA0 (pc' := 66) hX dX1_setForbidden_63 ml_X1_181 gc_J2 hrow.1.h0 hrow.1.1.2.1 (c_j_set hrow.1 (by omega) (okr_k (hH.2.1.bx (by omega)).2.1 (by omega))) (Nat.le_of_ble_eq_true rfl) (by decide) rfl ?_
        first
          | have hs4 := hH.yy.setR (i := r) (x := -1 - hno (h r c)) (j := c) rfl (by omega) (by omega) (OWval hH.2.1 (show -128 ≤ -1 - hno (h r c) ∧ -1 - hno (h r c) ≤ 127 by omega)) (show (-100 ≤ -1 - hno (h r c) ∧ -1 - hno (h r c) ≤ 99) ∧ v ≠ 0 by omega).1
            have hY := hs4.1.cg (fun i j _ _ _ _ => hh_fb (v := v) (x := -1 - hno (h r c)) (r := r) (c := c) (h := h) (by unfold hhd; rw [if_neg (by omega)]) i j)
          | have hs4 := hH.yy.setR (i := r) (x := hno (h r c)) (j := c) rfl (by omega) (by omega) (OWval hH.2.1 (show -128 ≤ hno (h r c) ∧ hno (h r c) ≤ 127 by omega)) (show -100 ≤ hno (h r c) ∧ hno (h r c) ≤ 99 by omega)
            have hY := hs4.1.cg (fun i j _ _ _ _ => hh_fb (v := v) (x := hno (h r c)) (r := r) (c := c) (h := h) (by unfold hhd; rw [if_pos (by omega)]) i j)
        have hGz := hs4.2.1
        clear hs4
        generalize upw w _ c _ = u1 at *
        refine g_pop (pc' := 67) hX dX1_setForbidden_66 (vR_cat _) rfl ?_
        refine g_aload_n (pc' := 68) hX dX1_setForbidden_67 rfl rfl ?_
        refine gV0U0 (pc' := 71) hX dX1_setForbidden_68 ml_X1_166 gc_X1 hY.1.h0 hY.1.hk (c_k_cancel hY.1 hY.2.2.2.2) (Nat.le_of_ble_eq_true rfl) (by decide) rfl (fun w68 q68 => ?_)
        have hF2 := hY.can hGz q68.1 q68.2
        refine g_aload_n (pc' := 72) hX dX1_setForbidden_71 rfl rfl ?_
        refine gV0I (pc' := 75) hX dX1_setForbidden_72 ml_X1_201 gc_X1 hF2.1.1.h0 hF2.1.1.hk (c_k_forbiddenCount hF2.1) (Nat.le_of_ble_eq_true rfl) (by decide) (by omega) rfl (fun r72 w72 q72 => ?_)
        obtain ⟨rfl, hG72⟩ := q72
        exact g_retIX hX hF dX1_setForbidden_75 ⟨by (repeat' split) <;> omega, rfl, hF2.1.nop hG72, GX.nop hF2.2 hG72⟩

theorem c_x_setRow (hH : XX E xo b n m h sn sm sh e w) (br : -2147483648 ≤ r ∧ r ≤ 2147483647) (bp : -9223372036854775808 ≤ p ∧ p ≤ 9223372036854775807)  : Call E mX1_setRow 8 3 18 [vR xo, vI r, vL p] w (qC (if ¬ (0 ≤ r ∧ r ≤ n - 1) then 1 else if ¬ (0 ≤ p ∧ p < pw m.toNat) then 2 else 0) ((sdl p m.toNat).2) (fun w' => XX E xo b n m (fun i j => if i = r ∧ 0 ≤ j ∧ j < m then hhd (dg2 m p j) (hfg (h i j)) else h i j) sn sm sh e.off w' ∧ Gr (fun a _ => ZX xo b w a) w w') w) := by
  refine call_of (av := [(1, xo), (0, r), (2, p)]) (by decide +kernel) rfl (Nat.le_of_ble_eq_true rfl) ?_
  intro X hX hF hname
  show GG X 3 18 w 0 [(1, xo), (0, r), (2, p), (9, 0), (9, 0), (9, 0), (9, 0), (9, 0), (9, 0), (9, 0), (9, 0), (9, 0)] []
  have hb := hH.2.2.1.1.2
  have hT1 := hH.2.2.1.2.1.1
  refine g_aload_n (pc' := 1) hX dX1_setRow_0 rfl rfl ?_
  refine g_iload_n (pc' := 2) hX dX1_setRow_1 rfl rfl ?_
  refine gV1E0 (pc' := 5) hX dX1_setRow_2 ml_X1_169 gc_X1 hH.1.h0 hH.1.hk (c_k_isRow hH.1 hH.2.2.1.1.1.1 (by omega) (by omega)) (Nat.le_of_ble_eq_true rfl) (by decide) rfl ?_
  refine gS1UX (pc' := 8) hX dX1_setRow_5 ml_X1_176 (c_k_needPlace (by omega)) (Nat.le_of_ble_eq_true rfl) (by decide) ⟨by omega, by omega⟩ rfl (fun w5 q5 => ?_) (fun k2 w2 hk0 hq => by
    obtain ⟨rfl, hz5, hG5⟩ := hq
    exact g_outX hX hF hk0 ⟨by (repeat' split) <;> omega, hG5⟩)
  obtain ⟨hz5, hw5⟩ := q5
  rw [hw5]
  refine g_lconst (pc' := 9) (v := 1) hX dX1_setRow_8 rfl rfl ?_
  refine g_lstore_4 (pc' := 11) hX dX1_setRow_9 (by decide) rfl rfl ?_
  refine g_iconst (pc' := 12) hX dX1_setRow_11 rfl ?_
  refine g_istore_6 (pc' := 14) hX dX1_setRow_12 (by decide) rfl rfl ?_
  have loop : ∀ (f : Nat) (k z : Int), 0 ≤ k → k ≤ m → z = pw k.toNat → m < k + f → GG X 2 12 w 14 [(1, xo), (0, r), (2, p), (9, 0), (2, z), (9, 0), (0, k), (9, 0), (9, 0), (9, 0), (9, 0), (9, 0)] [] := by
    intro f
    induction f with
    | zero => intro k z h0 h1 hz hf; exact absurd hf (by omega)
    | succ f ih =>
      intro k z h0 h1 hz hf
      refine g_iload (pc' := 16) hX dX1_setRow_14 rfl rfl ?_
      refine g_aload_n (pc' := 17) hX dX1_setRow_16 rfl rfl ?_
      refine gf_X1_13 (pc' := 20) hX dX1_setRow_17 hH.1.h0 hH.1.hk rfl ?_
      rw [hH.2.2.1.1.1.2.1]
      refine g_icmp_ge (pc' := 23) (tgt := 37) hX dX1_setRow_20 (by decide) rfl (by omega) (by omega) (fun h20 => ?_) (fun h20 => ?_)
      · skip
        rw [show k = m by omega] at hz
        subst hz
        have hpw := pw_b m.toNat (by omega)
        refine g_lload_n (pc' := 38) hX dX1_setRow_37 rfl rfl ?_
        refine g_lconst (pc' := 39) (v := 0) hX dX1_setRow_38 rfl rfl ?_
        refine g_lload (pc' := 41) hX dX1_setRow_39 rfl rfl ?_
        refine g_lconst (pc' := 42) (v := 1) hX dX1_setRow_41 rfl rfl ?_
        refine g_lsub (pc' := 43) hX dX1_setRow_42 rfl ?_
        refine gS3E0 (pc' := 46) hX dX1_setRow_43 ml_X1_127 (c_k_isIn (by omega) (by omega) (by omega)) (Nat.le_of_ble_eq_true rfl) (by decide) rfl ?_
        refine gS1UX (pc' := 49) hX dX1_setRow_46 ml_X1_162 (c_k_needNumber (by omega)) (Nat.le_of_ble_eq_true rfl) (by decide) ⟨by omega, by omega⟩ rfl (fun w46 q46 => ?_) (fun k2 w2 hk0 hq => by
          obtain ⟨rfl, hz46, hG46⟩ := hq
          exact g_outX hX hF hk0 ⟨by (repeat' split) <;> omega, hG46⟩)
        obtain ⟨hz46, hw46⟩ := q46
        rw [hw46]
        have hsb0 := sdl_b (p := p)
        refine g_aload_n (pc' := 50) hX dX1_setRow_49 rfl rfl ?_
        refine gf_X1_20 (pc' := 53) hX dX1_setRow_50 hH.1.h0 hH.1.hk rfl ?_
        refine g_iload_n (pc' := 54) hX dX1_setRow_53 rfl rfl ?_
        refine gV1EA0 (pc' := 57) hX dX1_setRow_54 ml_X1_131 gc_J2 hT1.1.h0 hT1.1.1.2.1 (c_j_get hT1.1 (by omega)) (Nat.le_of_ble_eq_true rfl) (by decide) rfl ?_
        have hrow := hH.yy.row (i := r) (by omega)
        obtain ⟨R, hR⟩ : ∃ R, R = el w (rdw w xo 2) r := ⟨_, rfl⟩
        rw [← hR] at hrow ⊢
        refine g_cast (pc' := 60) hX dX1_setRow_57 gc_J2 q104 hrow.1.h0 hrow.1.1.2.1 rfl ?_
        refine g_astore_6 (pc' := 62) hX dX1_setRow_60 (by decide) rfl rfl ?_
        refine g_bipush (pc' := 64) hX dX1_setRow_62 rfl rfl ?_
        refine g_istore_7 (pc' := 66) hX dX1_setRow_64 (by decide) rfl rfl ?_
        refine g_lload_n (pc' := 67) hX dX1_setRow_66 rfl rfl ?_
        refine g_lstore_8 (pc' := 69) hX dX1_setRow_67 (by decide) rfl rfl ?_
        refine g_aload_n (pc' := 70) hX dX1_setRow_69 rfl rfl ?_
        refine gf_X1_13 (pc' := 73) hX dX1_setRow_70 hH.1.h0 hH.1.hk rfl ?_
        rw [hH.2.2.1.1.1.2.1]
        refine g_iconst (pc' := 74) hX dX1_setRow_73 rfl ?_
        refine g_isub (pc' := 75) hX dX1_setRow_74 rfl ?_
        refine g_istore_10 (pc' := 77) hX dX1_setRow_75 (by decide) rfl rfl ?_
        have loop : ∀ (f : Nat) (j : Int) (h1 : Int → Int → Int) (u : Wd) (x11 : Nat × Int), -1 ≤ j → j ≤ m - 1 → YY E xo b n m h1 sn sm sh n (tC m h) e u → Gr (fun a _ => ZX xo b w a) w u → el u (rdw u xo 2) r = R → (∀ x y : Int, 0 ≤ x → x < n → 0 ≤ y → y < m → h1 x y = if x = r ∧ j < y then hhd (dg2 m p y) (hfg (h x y)) else h x y) → (x11 = (9, 0) ∨ x11.1 = 0) → j + 1 < f → GG X 1 6 u 77 [(1, xo), (0, r), (2, p), (9, 0), (2, pw m.toNat), (9, 0), (1, R), (0, (sdl p (m - 1 - j).toNat).2), (2, (sdl p (m - 1 - j).toNat).1), (9, 0), (0, j), x11] [] := by
          intro f
          induction f with
          | zero => intro j h1 u x11 j0 j1 hY hGz hRu hA h11 hf; exact absurd hf (by omega)
          | succ f ih =>
            intro j h1 u x11 j0 j1 hY hGz hRu hA h11 hf
            have hsb2 := sdl_b (p := p) (by omega) (m - 1 - j).toNat
            have hrow := hY.row (i := r) (by omega)
            rw [hRu] at hrow
            refine g_iload (pc' := 79) hX dX1_setRow_77 rfl rfl ?_
            refine g_if_lt (pc' := 82) (tgt := 150) hX dX1_setRow_79 (by decide) rfl (by omega) (fun h79 => ?_) (fun h79 => ?_)
            · skip
              refine g_aload_n (pc' := 151) hX dX1_setRow_150 rfl rfl ?_
              refine gV0U0 (pc' := 154) hX dX1_setRow_151 ml_X1_166 gc_X1 hY.1.h0 hY.1.hk (c_k_cancel hY.1 hY.2.2.2.2) (Nat.le_of_ble_eq_true rfl) (by decide) rfl (fun w151 q151 => ?_)
              have hF2 := (hY.cg (h' := fun i j => if i = r ∧ 0 ≤ j ∧ j < m then hhd (dg2 m p j) (hfg (h i j)) else h i j) (fun x y x0 x1 y0 y1 => by rw [hA x y x0 x1 y0 y1]; (repeat' split) <;> first | rfl | omega)).can hGz q151.1 q151.2
              refine g_iload (pc' := 156) hX dX1_setRow_154 rfl rfl ?_
              exact g_retIX hX hF dX1_setRow_156 ⟨by (repeat' split) <;> omega, by rw [show j = -1 by omega, show (m - 1 - (-1)).toNat = m.toNat by omega], hF2.1, hF2.2⟩
            · skip
              refine g_lload (pc' := 84) hX dX1_setRow_82 rfl rfl ?_
              refine g_ldc2 (pc' := 87) (n := 100) hX dX1_setRow_84 q1064 rfl rfl ?_
              refine g_lremP (pc' := 88) hX dX1_setRow_87 (by omega) (by omega) rfl ?_
              refine g_l2i (pc' := 89) hX dX1_setRow_88 rfl ?_
              refine g_istore_11 (pc' := 91) hX dX1_setRow_89 (by decide) rfl rfl ?_
              refine g_lload (pc' := 93) hX dX1_setRow_91 rfl rfl ?_
              refine g_ldc2 (pc' := 96) (n := 100) hX dX1_setRow_93 q1064 rfl rfl ?_
              refine g_ldivP (pc' := 97) hX dX1_setRow_96 (by omega) (by omega) rfl ?_
              refine g_lstore_8 (pc' := 99) hX dX1_setRow_97 (by decide) rfl rfl ?_
              refine g_aload (pc' := 101) hX dX1_setRow_99 rfl rfl ?_
              refine g_iload (pc' := 103) hX dX1_setRow_101 rfl rfl ?_
              refine g_aload (pc' := 105) hX dX1_setRow_103 rfl rfl ?_
              refine g_iload (pc' := 107) hX dX1_setRow_105 rfl rfl ?_
              refine gV1EA0 (pc' := 110) hX dX1_setRow_107 ml_X1_131 gc_J2 hrow.1.h0 hrow.1.1.2.1 (c_j_get hrow.1 (by omega)) (Nat.le_of_ble_eq_true rfl) (by decide) rfl ?_
              have hbx := hrow.2 j (by omega) (by omega)
              refine g_cast (pc' := 113) hX dX1_setRow_110 gc_J4 q475 hbx.1.1 hbx.1.2.1 rfl ?_
              refine gV0E0 (pc' := 116) hX dX1_setRow_113 ml_X1_135 gc_J4 hbx.1.1 hbx.1.2.1 (c_j_intValue hbx.1) (Nat.le_of_ble_eq_true rfl) (by decide) rfl ?_
              refine g_if_ge (pc' := 119) (tgt := 126) hX dX1_setRow_116 (by decide) rfl (by omega) (fun h116 => ?_) (fun h116 => ?_)
              · skip
                refine g_iload (pc' := 128) hX dX1_setRow_126 rfl rfl ?_
                refine gS1EA0 (pc' := 131) hX dX1_setRow_128 ml_X1_94 (c_j_valueOf hY.2.1 (by omega)) (Nat.le_of_ble_eq_true rfl) (by decide) rfl ?_
                refine gV2EA0 (pc' := 134) hX dX1_setRow_131 ml_X1_181 gc_J2 hrow.1.h0 hrow.1.1.2.1 (c_j_set hrow.1 (by omega) (okr_k (hY.2.1.bx (by omega)).2.1 (by omega))) (Nat.le_of_ble_eq_true rfl) (by decide) rfl ?_
                first
                  | have hs4 := hY.setR (i := r) (x := -1 - (sdl p (m - 1 - j).toNat).1 % 100) (j := j) hRu (by omega) (by omega) (OWval hY.2.1 (show -128 ≤ -1 - (sdl p (m - 1 - j).toNat).1 % 100 ∧ -1 - (sdl p (m - 1 - j).toNat).1 % 100 ≤ 127 by omega)) (show (-100 ≤ -1 - (sdl p (m - 1 - j).toNat).1 % 100 ∧ -1 - (sdl p (m - 1 - j).toNat).1 % 100 ≤ 99) ∧ h1 r j < 0 by omega).1
                  | have hs4 := hY.setR (i := r) (x := (sdl p (m - 1 - j).toNat).1 % 100) (j := j) hRu (by omega) (by omega) (OWval hY.2.1 (by omega)) (by omega)
                obtain ⟨hY2, hGs, e2, e3⟩ := hs4
                have hRu2 := e3 r (by omega) (by omega)
                rw [hRu] at hRu2
                rw [← e2] at hRu2
                generalize upw u _ j _ = u1 at *
                refine g_pop (pc' := 135) hX dX1_setRow_134 (vR_cat _) rfl ?_
                refine g_iload (pc' := 137) hX dX1_setRow_135 rfl rfl ?_
                refine g_iload (pc' := 139) hX dX1_setRow_137 rfl rfl ?_
                refine g_mmin (pc' := 142) hX dX1_setRow_139 q566 q211 q64 q212 (by omega) (by omega) (by omega) (Nat.le_of_ble_eq_true rfl) rfl ?_
                refine g_istore_7 (pc' := 144) hX dX1_setRow_142 (by decide) rfl rfl ?_
                refine g_iinc_10 (pc' := 147) hX dX1_setRow_144 (by decide) rfl rfl ?_
                refine g_goto (tgt := 77) hX dX1_setRow_147 (by decide) ?_
                have ex := ih (j + -1) _ _ (0, (sdl p (m - 1 - j).toNat).1 % 100) (by omega) (by omega) hY2 (GX.tr hGz hGs) hRu2 (fun x y x0 x1 y0 y1 => by
                  have hj := hA x y x0 x1 y0 y1
                  by_cases he : x = r ∧ y = j
                  · simp only [if_pos he]
                    rw [if_neg (show ¬ (x = r ∧ j < y) by omega)] at hj
                    rw [if_pos (show x = r ∧ j + -1 < y by omega), hhd_x, ← hj, he.1, he.2]
                    show _ = if h1 r j < 0 then _ else _
                    first
                      | (rw [if_pos (by omega)]; rfl)
                      | (rw [if_neg (by omega)]; rfl)
                  · simp only [if_neg he]
                    rw [hj]
                    (repeat' split) <;> first | rfl | omega) (Or.inr rfl) (by omega)
                rw [show (m - 1 - (j + -1)).toNat = (m - 1 - j).toNat + 1 by omega] at ex
                simp only [sdl] at ex
                exact ex
              · skip
                refine g_iconst (pc' := 120) hX dX1_setRow_119 rfl ?_
                refine g_iload (pc' := 122) hX dX1_setRow_120 rfl rfl ?_
                refine g_isub (pc' := 123) hX dX1_setRow_122 rfl ?_
                refine g_goto (tgt := 128) hX dX1_setRow_123 (by decide) ?_
                refine gS1EA0 (pc' := 131) hX dX1_setRow_128 ml_X1_94 (c_j_valueOf hY.2.1 (by omega)) (Nat.le_of_ble_eq_true rfl) (by decide) rfl ?_
                refine gV2EA0 (pc' := 134) hX dX1_setRow_131 ml_X1_181 gc_J2 hrow.1.h0 hrow.1.1.2.1 (c_j_set hrow.1 (by omega) (okr_k (hY.2.1.bx (by omega)).2.1 (by omega))) (Nat.le_of_ble_eq_true rfl) (by decide) rfl ?_
                first
                  | have hs4 := hY.setR (i := r) (x := -1 - (sdl p (m - 1 - j).toNat).1 % 100) (j := j) hRu (by omega) (by omega) (OWval hY.2.1 (show -128 ≤ -1 - (sdl p (m - 1 - j).toNat).1 % 100 ∧ -1 - (sdl p (m - 1 - j).toNat).1 % 100 ≤ 127 by omega)) (show (-100 ≤ -1 - (sdl p (m - 1 - j).toNat).1 % 100 ∧ -1 - (sdl p (m - 1 - j).toNat).1 % 100 ≤ 99) ∧ h1 r j < 0 by omega).1
                  | have hs4 := hY.setR (i := r) (x := (sdl p (m - 1 - j).toNat).1 % 100) (j := j) hRu (by omega) (by omega) (OWval hY.2.1 (by omega)) (by omega)
                obtain ⟨hY2, hGs, e2, e3⟩ := hs4
                have hRu2 := e3 r (by omega) (by omega)
                rw [hRu] at hRu2
                rw [← e2] at hRu2
                generalize upw u _ j _ = u1 at *
                refine g_pop (pc' := 135) hX dX1_setRow_134 (vR_cat _) rfl ?_
                refine g_iload (pc' := 137) hX dX1_setRow_135 rfl rfl ?_
                refine g_iload (pc' := 139) hX dX1_setRow_137 rfl rfl ?_
                refine g_mmin (pc' := 142) hX dX1_setRow_139 q566 q211 q64 q212 (by omega) (by omega) (by omega) (Nat.le_of_ble_eq_true rfl) rfl ?_
                refine g_istore_7 (pc' := 144) hX dX1_setRow_142 (by decide) rfl rfl ?_
                refine g_iinc_10 (pc' := 147) hX dX1_setRow_144 (by decide) rfl rfl ?_
                refine g_goto (tgt := 77) hX dX1_setRow_147 (by decide) ?_
                have ex := ih (j + -1) _ _ (0, (sdl p (m - 1 - j).toNat).1 % 100) (by omega) (by omega) hY2 (GX.tr hGz hGs) hRu2 (fun x y x0 x1 y0 y1 => by
                  have hj := hA x y x0 x1 y0 y1
                  by_cases he : x = r ∧ y = j
                  · simp only [if_pos he]
                    rw [if_neg (show ¬ (x = r ∧ j < y) by omega)] at hj
                    rw [if_pos (show x = r ∧ j + -1 < y by omega), hhd_x, ← hj, he.1, he.2]
                    show _ = if h1 r j < 0 then _ else _
                    first
                      | (rw [if_pos (by omega)]; rfl)
                      | (rw [if_neg (by omega)]; rfl)
                  · simp only [if_neg he]
                    rw [hj]
                    (repeat' split) <;> first | rfl | omega) (Or.inr rfl) (by omega)
                rw [show (m - 1 - (j + -1)).toNat = (m - 1 - j).toNat + 1 by omega] at ex
                simp only [sdl] at ex
                exact ex
        have ex := loop 8 (m - 1) h w (9, 0) (by omega) (by omega) hH.yy Gr.rf hR.symm (fun x y x0 x1 y0 y1 => by rw [if_neg (by omega)]) (Or.inl rfl) (by omega)
        rw [show (m - 1 - (m - 1)).toNat = 0 by omega] at ex
        exact ex
      · skip
        refine g_lload (pc' := 25) hX dX1_setRow_23 rfl rfl ?_
        refine g_ldc2 (pc' := 28) (n := 100) hX dX1_setRow_25 q1064 rfl rfl ?_
        refine g_lmul (pc' := 29) hX dX1_setRow_28 rfl ?_
        refine g_lstore_4 (pc' := 31) hX dX1_setRow_29 (by decide) rfl rfl ?_
        refine g_iinc_6 (pc' := 34) hX dX1_setRow_31 (by decide) rfl rfl ?_
        refine g_goto (tgt := 14) hX dX1_setRow_34 (by decide) ?_
        exact ih (k + 1) _ (by omega) (by omega) (by rw [hz, show (k + 1).toNat = k.toNat + 1 by omega]; rfl) (by omega)
  exact loop 8 0 1 (by omega) (by omega) rfl (by omega)

end K5S
