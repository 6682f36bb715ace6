/-! THE COMPONENT: changes of the table, over all rows (by gen/spec_k7.py) -/
set_option maxRecDepth 100000
set_option maxHeartbeats 4000000
section K7S
variable {E : Ev} {w w0 u u' : Wd} {P : Int → Int → Prop} {T R r c n m sn sm l i j k v a z xo b it x n0 p a0 b0 : Int} {h h' sh C0 : Int → Int → Int} {f : Int → Int} {e : En}
theorem YY.itr2 (H : YY E xo b n m h sn sm sh n0 C0 e u) (hI : IT E u it l k) (hG : Gr (fun a _ => a = it) u u') : YY E xo b n m h sn sm sh n0 C0 e u' ∧ rdw u' xo 2 = rdw u xo 2 ∧ (∀ k : Int, 0 ≤ k → k < n → el u' (rdw u xo 2) k = el u (rdw u xo 2) k) := by
  have h1 := H.1.k8 hI.1.2
  have hx : kdw u xo ≠ 0 := by rw [H.1.hk]; decide
  have g := (H.2.2.1.2.1.1).gr hG H.2.1 (fun a i z => by rw [z]; exact hI.1.1) (fun l' i hl' => by
    obtain ⟨q, hq⟩ := (H.2.2.1.2.1.1).al hl'
    exact it_ap hI.1.2 H.2.1 hq)
  exact ⟨H.itr hI hG, hG.rd hx (fun z => h1.1 z.symm), fun k k0 k1 => (g.2.2 k k0 k1).1⟩
/-- one step of an iterator over the held table -/
theorem YY.nxt (H : YY E xo b n m h sn sm sh n0 C0 e u) (hT : rdw u xo 2 = T) (hI : IT E u it T k) (hGz : Gr (fun a _ => ZX xo b w a) w u) (hk : kdw w it = 0) : YY E xo b n m h sn sm sh n0 C0 e (upw (upw u it 0 (k + 1)) it 1 k) ∧ rdw (upw (upw u it 0 (k + 1)) it 1 k) xo 2 = T ∧ (∀ q : Int, 0 ≤ q → q < n → el (upw (upw u it 0 (k + 1)) it 1 k) T q = el u T q) ∧ IT E (upw (upw u it 0 (k + 1)) it 1 k) it T (k + 1) ∧ Gr (fun a _ => ZX xo b w a) w (upw (upw u it 0 (k + 1)) it 1 k) := by
  have hT7 : kdw u T = 7 := by rw [← hT]; exact H.2.2.1.2.1.1.1.1.2.1
  obtain ⟨i2, g2⟩ := hI.nx hT7
  obtain ⟨a1, a2, a3⟩ := H.itr2 hI g2
  rw [hT] at a2 a3
  exact ⟨a1, a2, a3, i2, GX.itr hGz hk g2⟩
/-- a number written, the iterator stays -/
theorem YY.setI (H : YY E xo b n m h sn sm sh n0 C0 e u) (hT : rdw u xo 2 = T) (hI : IT E u it T k) (hR : el u T i = R) (hi : 0 ≤ i ∧ i < n) (hj : 0 ≤ j ∧ j < m) (hv : bx u v x ∧ v < eB E) (hx : -100 ≤ x ∧ x ≤ 99) : YY E xo b n m (fun a q => if a = i ∧ q = j then x else h a q) sn sm sh n0 C0 e (upw u (rdw u R 1) j v) ∧ Gr (fun a _ => ZX xo b u a) u (upw u (rdw u R 1) j v) ∧ rdw (upw u (rdw u R 1) j v) xo 2 = T ∧ (∀ k : Int, 0 ≤ k → k < n → el (upw u (rdw u R 1) j v) T k = el u T k) ∧ IT E (upw u (rdw u R 1) j v) it T k ∧ ∀ o q, bx u o q → bx (upw u (rdw u R 1) j v) o q := by
  subst hT
  have hR2 := (H.row hi).1
  rw [hR] at hR2
  have hra := hR2.arr (by omega)
  have s := H.setR hR hi hj hv hx
  exact ⟨s.1, s.2.1, s.2.2.1, s.2.2.2, hI.set (by omega) H.2.2.1.2.1.1.1.1.2.1, fun o q hb => hb.gr (P := fun a _ => a = rdw u R 1) (Gr.rf.up rfl) (fun z => by have := hb.2.1; rw [z] at this; omega)⟩
theorem YY.al (H : YY E xo b n m h sn sm sh n0 C0 e u) (hT : rdw u xo 2 = T) : AL E u T n := by rw [← hT]; exact H.2.2.1.2.1.1.1
theorem YY.rowT (H : YY E xo b n m h sn sm sh n0 C0 e u) (hT : rdw u xo 2 = T) (hR : el u T i = R) (hi : 0 ≤ i ∧ i < n) : AL E u R m ∧ ∀ j : Int, 0 ≤ j → j < m → bx u (el u R j) (h i j) ∧ (-100 ≤ h i j ∧ h i j ≤ 99) := by
  subst hT
  have := H.row hi
  rw [hR] at this
  exact this
theorem YY.cell (H : YY E xo b n m h sn sm sh n0 C0 e u) (hT : rdw u xo 2 = T) (hR : el u T i = R) (hi : 0 ≤ i ∧ i < n) (hj : 0 ≤ j ∧ j < m) : bx u (el u R j) (h i j) ∧ el u R j < eB E := by
  subst hT
  have := H.2.2.1.2.1.1.2.2.1 i j hi.1 hi.2 hj.1 hj.2
  rw [hR] at this
  exact this
theorem c_x_addToColumn (hH : XX E xo b n m h sn sm sh e w) (bc : -2147483648 ≤ c ∧ c ≤ 2147483647) (bv : -2147483648 ≤ v ∧ v ≤ 2147483647)  : Call E mX1_addToColumn 8 6 36 [vR xo, vI c, vI v] w (qC (if ¬ (0 ≤ c ∧ c ≤ m - 1) then 1 else if ¬ (-99 ≤ v ∧ v ≤ 99) then 2 else if ¬ (al (fun i => tk h v i c) n.toNat = 1) then 3 else 0) (clS n m (fun x y => if x < n ∧ y = c then h x y + v else h x y) c) (fun w' => XX E xo b n m (fun x y => if x < n ∧ y = c then h x y + v else h x y) sn sm sh e.off w' ∧ Gr (fun a _ => ZX xo b w a) w w') w) := by
  refine call_of (av := [(1, xo), (0, c), (0, v)]) (by decide +kernel) rfl (Nat.le_of_ble_eq_true rfl) ?_
  intro X hX hF hname
  show GG X 6 36 w 0 [(1, xo), (0, c), (0, v), (9, 0), (9, 0), (9, 0)] []
  have hb := hH.2.2.1.1.2
  have hT1 := hH.2.2.1.2.1.1
  refine g_aload_n (pc' := 1) hX dX1_addToColumn_0 rfl rfl ?_
  refine g_iload_n (pc' := 2) hX dX1_addToColumn_1 rfl rfl ?_
  refine gV1E0 (pc' := 5) hX dX1_addToColumn_2 ml_X1_173 gc_X1 hH.1.h0 hH.1.hk (c_k_isReal hH.1 hH.2.2.1.1.1.2.1 (by omega) (by omega)) (Nat.le_of_ble_eq_true rfl) (by decide) rfl ?_
  refine gS1UX (pc' := 8) hX dX1_addToColumn_5 ml_X1_176 (c_k_needPlace (by omega)) (Nat.le_of_ble_eq_true rfl) (by decide) ⟨by omega, by omega⟩ rfl (fun w5 q5 => ?_) (fun k2 w2 hk0 hq => by
    obtain ⟨rfl, hz5, hG5⟩ := hq
    exact g_outX hX hF hk0 ⟨by (repeat' split) <;> omega, hG5⟩)
  obtain ⟨hz5, hw5⟩ := q5
  rw [hw5]
  refine g_iload_n (pc' := 9) hX dX1_addToColumn_8 rfl rfl ?_
  refine g_i2l (pc' := 10) hX dX1_addToColumn_9 (by omega) rfl ?_
  refine g_ldc2 (pc' := 13) (n := -99) hX dX1_addToColumn_10 q1099 rfl rfl ?_
  refine g_ldc2 (pc' := 16) (n := 99) hX dX1_addToColumn_13 q1049 rfl rfl ?_
  refine gS3E0 (pc' := 19) hX dX1_addToColumn_16 ml_X1_127 (c_k_isIn (by omega) (by omega) (by omega)) (Nat.le_of_ble_eq_true rfl) (by decide) rfl ?_
  refine gS1UX (pc' := 22) hX dX1_addToColumn_19 ml_X1_162 (c_k_needNumber (by omega)) (Nat.le_of_ble_eq_true rfl) (by decide) ⟨by omega, by omega⟩ rfl (fun w19 q19 => ?_) (fun k2 w2 hk0 hq => by
    obtain ⟨rfl, hz19, hG19⟩ := hq
    exact g_outX hX hF hk0 ⟨by (repeat' split) <;> omega, hG19⟩)
  obtain ⟨hz19, hw19⟩ := q19
  rw [hw19]
  refine g_iconst (pc' := 23) hX dX1_addToColumn_22 rfl ?_
  rw [show (1 : Int) = al (fun i => tk h v i c) (0 : Int).toNat from rfl]
  refine g_istore_n_3 (pc' := 24) hX dX1_addToColumn_23 (by decide) rfl rfl ?_
  refine g_aload_n (pc' := 25) hX dX1_addToColumn_24 rfl rfl ?_
  refine gf_X1_20 (pc' := 28) hX dX1_addToColumn_25 hH.1.h0 hH.1.hk rfl ?_
  refine gV0A (pc' := 31) hX dX1_addToColumn_28 ml_X1_104 gc_J2 hT1.1.h0 hT1.1.1.2.1 (c_j_iterator hH.2.1 hT1.1) (Nat.le_of_ble_eq_true rfl) (by decide) (by omega) rfl (fun r28 w28 q28 => ?_)
  obtain ⟨hI, hk, hG⟩ := q28
  refine g_astore_4 (pc' := 33) hX dX1_addToColumn_31 (by decide) rfl rfl ?_
  have loop : ∀ (f : Nat) (i : Int) (u : Wd) (x5 : Nat × Int), 0 ≤ i → i ≤ n → IT E u r28 (rdw w xo 2) i → Gr NoP w u → n < i + f → GG X 3 18 u 33 [(1, xo), (0, c), (0, v), (0, al (fun i => tk h v i c) i.toNat), (1, r28), x5] [] := by
    intro f
    induction f with
    | zero => intro i u x5 i0 i1 hI hG hf; exact absurd hf (by omega)
    | succ f ih =>
      intro i u x5 i0 i1 hI hG hf
      have hTu := (hT1.nop hH.2.1 hG).1
      refine g_aload (pc' := 35) hX dX1_addToColumn_33 rfl rfl ?_
      refine gF0E0 (pc' := 40) hX dX1_addToColumn_35 ml_X1_108_J19 gc_J19 (nn_b hI.1.1) hI.1.2 (c_j_hasNext hTu.1 (by omega) hI ⟨i0, i1⟩) (Nat.le_of_ble_eq_true rfl) (by decide) rfl ?_
      refine g_if_eq (pc' := 43) (tgt := 108) hX dX1_addToColumn_40 (by decide) rfl (by omega) (fun h40 => ?_) (fun h40 => ?_)
      · skip
        refine g_iload_n (pc' := 109) hX dX1_addToColumn_108 rfl rfl ?_
        rw [show i = n by omega]
        have ha01 := al_01 (f := fun i => tk h v i c) n.toNat
        refine gS1UX (pc' := 112) hX dX1_addToColumn_109 ml_X1_209 (c_k_needState (by omega)) (Nat.le_of_ble_eq_true rfl) (by decide) ⟨by omega, by omega⟩ rfl (fun w109 q109 => ?_) (fun k2 w2 hk0 hq => by
          obtain ⟨rfl, hz109, hG109⟩ := hq
          exact g_outX hX hF hk0 ⟨by (repeat' split) <;> omega, hG.tr hG109⟩)
        obtain ⟨hz109, hw109⟩ := q109
        rw [hw109]
        have hcan : al (fun i => tk h v i c) n.toNat = 1 := by omega
        have hH1 := hH.nop hG
        have hall := al_all2 hcan
        have eT1 : rdw u xo 2 = rdw w xo 2 := hG.rd (by rw [hH.1.hk]; decide) id
        refine g_aload_n (pc' := 113) hX dX1_addToColumn_112 rfl rfl ?_
        refine gf_X1_20 (pc' := 116) hX dX1_addToColumn_113 hH1.1.h0 hH1.1.hk rfl ?_
        rw [eT1]
        refine gV0A (pc' := 119) hX dX1_addToColumn_116 ml_X1_104 gc_J2 (hH1.yy.al eT1).h0 (hH1.yy.al eT1).1.2.1 (c_j_iterator hH1.2.1 (hH1.yy.al eT1)) (Nat.le_of_ble_eq_true rfl) (by decide) (by omega) rfl (fun r116 w116 q116 => ?_)
        obtain ⟨hI, hk0, hG116⟩ := q116
        have hk := hG.new0 hk0
        have hGw := hG.tr hG116
        have hT116 : rdw w116 xo 2 = rdw w xo 2 := hGw.rd (by rw [hH.1.hk]; decide) id
        refine g_astore_4 (pc' := 121) hX dX1_addToColumn_119 (by decide) rfl rfl ?_
        have loop2 : ∀ (g : Nat) (q : Int) (h1 : Int → Int → Int) (v2 : Wd) (x5 : Nat × Int), 0 ≤ q → q ≤ n → YY E xo b n m h1 sn sm sh n (tC m h) e v2 → Gr (fun a _ => ZX xo b w a) w v2 → rdw v2 xo 2 = rdw w xo 2 → IT E v2 r116 (rdw w xo 2) q → (∀ x y : Int, 0 ≤ x → x < n → 0 ≤ y → y < m → h1 x y = if x < q ∧ y = c then h x y + v else h x y) → n < q + g → GG X 1 4 v2 121 [(1, xo), (0, c), (0, v), (9, 0), (1, r116), x5] [] := by
          intro g
          induction g with
          | zero => intro q h1 v2 x5 _ _ _ _ _ _ _ hg; exact absurd hg (by omega)
          | succ g ih2 =>
            intro q h1 v2 x5 q0 q1 hY hGz hTe hI hA hg
            refine g_aload (pc' := 123) hX dX1_addToColumn_121 rfl rfl ?_
            refine gF0E0 (pc' := 128) hX dX1_addToColumn_123 ml_X1_108_J19 gc_J19 (nn_b hI.1.1) hI.1.2 (c_j_hasNext (hY.al hTe) (by omega) hI ⟨q0, q1⟩) (Nat.le_of_ble_eq_true rfl) (by decide) rfl ?_
            refine g_if_eq (pc' := 131) (tgt := 170) hX dX1_addToColumn_128 (by decide) rfl (by omega) (fun h128 => ?_) (fun h128 => ?_)
            · skip
              refine g_aload_n (pc' := 171) hX dX1_addToColumn_170 rfl rfl ?_
              refine gV0U0 (pc' := 174) hX dX1_addToColumn_171 ml_X1_166 gc_X1 hY.1.h0 hY.1.hk (c_k_cancel hY.1 hY.2.2.2.2) (Nat.le_of_ble_eq_true rfl) (by decide) rfl (fun w171 q171 => ?_)
              have hF2 := (hY.cg (h' := fun x y => if x < n ∧ y = c then h x y + v else h x y) (fun x y x0 x1 y0 y1 => by rw [hA x y x0 x1 y0 y1]; (repeat' split) <;> first | rfl | omega)).can hGz q171.1 q171.2
              refine g_aload_n (pc' := 175) hX dX1_addToColumn_174 rfl rfl ?_
              refine g_iload_n (pc' := 176) hX dX1_addToColumn_175 rfl rfl ?_
              refine gV1I (pc' := 179) hX dX1_addToColumn_176 ml_X1_215 gc_X1 hF2.1.1.h0 hF2.1.1.hk (c_k_columnSum hF2.1 (by omega)) (Nat.le_of_ble_eq_true rfl) (by decide) (by omega) rfl (fun r176 w176 q176 => ?_)
              obtain ⟨rfl, hG176⟩ := q176
              exact g_retIX hX hF dX1_addToColumn_179 ⟨by (repeat' split) <;> omega, rfl, hF2.1.nop hG176, GX.nop hF2.2 hG176⟩
            · skip
              refine g_aload (pc' := 133) hX dX1_addToColumn_131 rfl rfl ?_
              refine gF0EA0 (pc' := 138) hX dX1_addToColumn_133 ml_X1_114_J19 gc_J19 (nn_b hI.1.1) hI.1.2 (c_j_next (hY.al hTe) hI (by omega)) (Nat.le_of_ble_eq_true rfl) (by decide) rfl ?_
              obtain ⟨hY2, hTe2, hel2, hI2, hGz2⟩ := hY.nxt hTe hI hGz hk
              have hR3 := hel2 q q0 (by omega)
              have hrow := hY2.rowT hTe2 hR3 ⟨q0, by omega⟩
              have hbx := hrow.2 c (by omega) (by omega)
              have hq := hA q c q0 (by omega) (by omega) (by omega)
              rw [if_neg (by omega)] at hq
              rw [hq] at hbx
              have htk := tk_v (hall q q0 (by omega))
              generalize upw (upw v2 r116 0 (q + 1)) r116 1 q = u2 at *
              refine g_cast (pc' := 141) hX dX1_addToColumn_138 gc_J2 q104 hrow.1.h0 hrow.1.1.2.1 rfl ?_
              refine g_astore_5 (pc' := 143) hX dX1_addToColumn_141 (by decide) rfl rfl ?_
              refine g_aload (pc' := 145) hX dX1_addToColumn_143 rfl rfl ?_
              refine g_iload_n (pc' := 146) hX dX1_addToColumn_145 rfl rfl ?_
              refine g_aload (pc' := 148) hX dX1_addToColumn_146 rfl rfl ?_
              refine g_iload_n (pc' := 149) hX dX1_addToColumn_148 rfl rfl ?_
              refine gV1EA0 (pc' := 152) hX dX1_addToColumn_149 ml_X1_131 gc_J2 hrow.1.h0 hrow.1.1.2.1 (c_j_get hrow.1 (by omega)) (Nat.le_of_ble_eq_true rfl) (by decide) rfl ?_
              refine g_cast (pc' := 155) hX dX1_addToColumn_152 gc_J4 q475 hbx.1.1 hbx.1.2.1 rfl ?_
              refine gV0E0 (pc' := 158) hX dX1_addToColumn_155 ml_X1_135 gc_J4 hbx.1.1 hbx.1.2.1 (c_j_intValue hbx.1) (Nat.le_of_ble_eq_true rfl) (by decide) rfl ?_
              refine g_iload_n (pc' := 159) hX dX1_addToColumn_158 rfl rfl ?_
              refine g_iadd (pc' := 160) hX dX1_addToColumn_159 rfl ?_
              refine gS1EA0 (pc' := 163) hX dX1_addToColumn_160 ml_X1_94 (c_j_valueOf hY2.2.1 (by omega)) (Nat.le_of_ble_eq_true rfl) (by decide) rfl ?_
              refine gV2EA0 (pc' := 166) hX dX1_addToColumn_163 ml_X1_181 gc_J2 hrow.1.h0 hrow.1.1.2.1 (c_j_set hrow.1 (by omega) (okr_k (hY2.2.1.bx (by omega)).2.1 (by omega))) (Nat.le_of_ble_eq_true rfl) (by decide) rfl ?_
              obtain ⟨hY3, hGs, hTe3, -, hI3, -⟩ := hY2.setI (x := h q c + v) (j := c) hTe2 hI2 hR3 ⟨q0, by omega⟩ (by omega) (OWval hY2.2.1 (by omega)) (by omega)
              generalize upw u2 _ c _ = u3 at *
              refine g_pop (pc' := 167) hX dX1_addToColumn_166 (vR_cat _) rfl ?_
              refine g_goto (tgt := 121) hX dX1_addToColumn_167 (by decide) ?_
              refine ih2 (q + 1) _ _ _ (by omega) (by omega) hY3 (GX.tr hGz2 hGs) hTe3 hI3 (fun x y x0 x1 y0 y1 => ?_) (by omega)
              have hj := hA x y x0 x1 y0 y1
              by_cases he : x = q ∧ y = c
              · simp only [if_pos he]
                rw [if_pos (show x < q + 1 ∧ y = c by omega), he.1, he.2]
              · simp only [if_neg he]
                rw [hj]
                (repeat' split) <;> first | rfl | omega
        exact GG_lv (GG_less (loop2 9 0 h w116 _ (by omega) (by omega) (hH.nop hGw).yy (NoP.gx hGw) hT116 hI (fun x y x0 x1 y0 y1 => by rw [if_neg (by omega)]) (by omega)) (by omega) (by omega)) ⟨Or.inr rfl, Or.inr rfl, Or.inr rfl, Or.inl rfl, Or.inr rfl, Or.inr rfl, trivial⟩
      · skip
        refine g_aload (pc' := 45) hX dX1_addToColumn_43 rfl rfl ?_
        refine gF0EA0 (pc' := 50) hX dX1_addToColumn_45 ml_X1_114_J19 gc_J19 (nn_b hI.1.1) hI.1.2 (c_j_next hTu.1 hI (by omega)) (Nat.le_of_ble_eq_true rfl) (by decide) rfl ?_
        have hto := hT1.out hG hH.2.1 i0 (show i < n by omega)
        obtain ⟨hI2, hGi⟩ := hI.nx hTu.1.1.2.1
        have hG2 : Gr NoP w (upw (upw u r28 0 (i + 1)) r28 1 i) := hG.trN hGi (fun a i hk' z => hk' (by rw [z]; exact hk))
        rw [hto.1]
        have hH2 := hH.nop hG2
        have hto2 := hT1.out hG2 hH.2.1 i0 (show i < n by omega)
        have hrow : AL E (upw (upw u r28 0 (i + 1)) r28 1 i) (el w (rdw w xo 2) i) m ∧ ∀ j : Int, 0 ≤ j → j < m → bx (upw (upw u r28 0 (i + 1)) r28 1 i) (el (upw (upw u r28 0 (i + 1)) r28 1 i) (el w (rdw w xo 2) i) j) (h i j) ∧ (-100 ≤ h i j ∧ h i j ≤ 99) := ⟨hto2.2.1, fun j j0 j1 => by rw [hto2.2.2 j j0 j1]; exact ⟨(hT1.2.2.1 i j i0 (by omega) j0 j1).1.gr hG2 id, hH.2.2.1.2.2.1 i j i0 (by omega) j0 j1⟩⟩
        generalize upw (upw u r28 0 (i + 1)) r28 1 i = u2 at *
        have ha01 := al_01 (f := fun i => tk h v i c) i.toNat
        have htk : tk h v i c = if 0 ≤ h i c ∧ 0 ≤ h i c + v ∧ h i c + v ≤ 99 then 1 else 0 := rfl
        have hbx := hrow.2 c (by omega) (by omega)
        refine g_cast (pc' := 53) hX dX1_addToColumn_50 gc_J2 q104 hrow.1.h0 hrow.1.1.2.1 rfl ?_
        refine g_astore_5 (pc' := 55) hX dX1_addToColumn_53 (by decide) rfl rfl ?_
        refine g_iload_n (pc' := 56) hX dX1_addToColumn_55 rfl rfl ?_
        refine g_if_eq (pc' := 59) (tgt := 103) hX dX1_addToColumn_56 (by decide) rfl (by omega) (fun h56 => ?_) (fun h56 => ?_)
        · skip
          refine g_iconst (pc' := 104) hX dX1_addToColumn_103 rfl ?_
          refine g_istore_n_3 (pc' := 105) hX dX1_addToColumn_104 (by decide) rfl rfl ?_
          refine g_goto (tgt := 33) hX dX1_addToColumn_105 (by decide) ?_
          have ex := fun z => ih (i + 1) _ z (by omega) (by omega) hI2 hG2 (by omega)
          first
            | (rw [show al (fun i => tk h v i c) (i + 1).toNat = 1 from by rw [al_s i0]; (repeat' split) <;> omega] at ex; exact ex _)
            | (rw [show al (fun i => tk h v i c) (i + 1).toNat = 0 from by rw [al_s i0]; (repeat' split) <;> omega] at ex; exact ex _)
        · skip
          refine g_aload (pc' := 61) hX dX1_addToColumn_59 rfl rfl ?_
          refine g_iload_n (pc' := 62) hX dX1_addToColumn_61 rfl rfl ?_
          refine gV1EA0 (pc' := 65) hX dX1_addToColumn_62 ml_X1_131 gc_J2 hrow.1.h0 hrow.1.1.2.1 (c_j_get hrow.1 (by omega)) (Nat.le_of_ble_eq_true rfl) (by decide) rfl ?_
          refine g_cast (pc' := 68) hX dX1_addToColumn_65 gc_J4 q475 hbx.1.1 hbx.1.2.1 rfl ?_
          refine gV0E0 (pc' := 71) hX dX1_addToColumn_68 ml_X1_135 gc_J4 hbx.1.1 hbx.1.2.1 (c_j_intValue hbx.1) (Nat.le_of_ble_eq_true rfl) (by decide) rfl ?_
          refine g_if_lt (pc' := 74) (tgt := 103) hX dX1_addToColumn_71 (by decide) rfl (by omega) (fun h71 => ?_) (fun h71 => ?_)
          · skip
            refine g_iconst (pc' := 104) hX dX1_addToColumn_103 rfl ?_
            refine g_istore_n_3 (pc' := 105) hX dX1_addToColumn_104 (by decide) rfl rfl ?_
            refine g_goto (tgt := 33) hX dX1_addToColumn_105 (by decide) ?_
            have ex := fun z => ih (i + 1) _ z (by omega) (by omega) hI2 hG2 (by omega)
            first
              | (rw [show al (fun i => tk h v i c) (i + 1).toNat = 1 from by rw [al_s i0]; (repeat' split) <;> omega] at ex; exact ex _)
              | (rw [show al (fun i => tk h v i c) (i + 1).toNat = 0 from by rw [al_s i0]; (repeat' split) <;> omega] at ex; exact ex _)
          · skip
            refine g_aload (pc' := 76) hX dX1_addToColumn_74 rfl rfl ?_
            refine g_iload_n (pc' := 77) hX dX1_addToColumn_76 rfl rfl ?_
            refine gV1EA0 (pc' := 80) hX dX1_addToColumn_77 ml_X1_131 gc_J2 hrow.1.h0 hrow.1.1.2.1 (c_j_get hrow.1 (by omega)) (Nat.le_of_ble_eq_true rfl) (by decide) rfl ?_
            refine g_cast (pc' := 83) hX dX1_addToColumn_80 gc_J4 q475 hbx.1.1 hbx.1.2.1 rfl ?_
            refine gV0E0 (pc' := 86) hX dX1_addToColumn_83 ml_X1_135 gc_J4 hbx.1.1 hbx.1.2.1 (c_j_intValue hbx.1) (Nat.le_of_ble_eq_true rfl) (by decide) rfl ?_
            refine g_iload_n (pc' := 87) hX dX1_addToColumn_86 rfl rfl ?_
            refine g_iadd (pc' := 88) hX dX1_addToColumn_87 rfl ?_
            refine g_i2l (pc' := 89) hX dX1_addToColumn_88 (by omega) rfl ?_
            refine g_lconst (pc' := 90) (v := 0) hX dX1_addToColumn_89 rfl rfl ?_
            refine g_ldc2 (pc' := 93) (n := 99) hX dX1_addToColumn_90 q1049 rfl rfl ?_
            refine gS3E0 (pc' := 96) hX dX1_addToColumn_93 ml_X1_127 (c_k_isIn (by omega) (by omega) (by omega)) (Nat.le_of_ble_eq_true rfl) (by decide) rfl ?_
            refine g_if_eq (pc' := 99) (tgt := 103) hX dX1_addToColumn_96 (by decide) rfl (by omega) (fun h96 => ?_) (fun h96 => ?_)
            · skip
              refine g_iconst (pc' := 104) hX dX1_addToColumn_103 rfl ?_
              refine g_istore_n_3 (pc' := 105) hX dX1_addToColumn_104 (by decide) rfl rfl ?_
              refine g_goto (tgt := 33) hX dX1_addToColumn_105 (by decide) ?_
              have ex := fun z => ih (i + 1) _ z (by omega) (by omega) hI2 hG2 (by omega)
              first
                | (rw [show al (fun i => tk h v i c) (i + 1).toNat = 1 from by rw [al_s i0]; (repeat' split) <;> omega] at ex; exact ex _)
                | (rw [show al (fun i => tk h v i c) (i + 1).toNat = 0 from by rw [al_s i0]; (repeat' split) <;> omega] at ex; exact ex _)
            · skip
              refine g_iconst (pc' := 100) hX dX1_addToColumn_99 rfl ?_
              refine g_goto (tgt := 104) hX dX1_addToColumn_100 (by decide) ?_
              refine g_istore_n_3 (pc' := 105) hX dX1_addToColumn_104 (by decide) rfl rfl ?_
              refine g_goto (tgt := 33) hX dX1_addToColumn_105 (by decide) ?_
              have ex := fun z => ih (i + 1) _ z (by omega) (by omega) hI2 hG2 (by omega)
              first
                | (rw [show al (fun i => tk h v i c) (i + 1).toNat = 1 from by rw [al_s i0]; (repeat' split) <;> omega] at ex; exact ex _)
                | (rw [show al (fun i => tk h v i c) (i + 1).toNat = 0 from by rw [al_s i0]; (repeat' split) <;> omega] at ex; exact ex _)
  exact GG_less (loop 9 0 w28 (9, 0) (by omega) (by omega) hI hG (by omega)) (by omega) (by omega)

theorem c_x_swapColumns (hH : XX E xo b n m h sn sm sh e w) (br : -2147483648 ≤ r ∧ r ≤ 2147483647) (bc : -2147483648 ≤ c ∧ c ≤ 2147483647)  : Call E mX1_swapColumns 8 3 18 [vR xo, vI r, vI c] w (qC (if 0 ≤ r ∧ r ≤ m - 1 ∧ 0 ≤ c ∧ c ≤ m - 1 then 0 else 1) (clS n m (fun x y => if x < n then (if y = r then h x c else if y = c then h x r else h x y) else h x y) r) (fun w' => XX E xo b n m (fun x y => if x < n then (if y = r then h x c else if y = c then h x r else h x y) else h x y) sn sm sh e.off w' ∧ Gr (fun a _ => ZX xo b w a) w w') w) := by
  refine call_of (av := [(1, xo), (0, r), (0, c)]) (by decide +kernel) rfl (Nat.le_of_ble_eq_true rfl) ?_
  intro X hX hF hname
  show GG X 3 18 w 0 [(1, xo), (0, r), (0, c), (9, 0), (9, 0)] []
  have hb := hH.2.2.1.1.2
  have hT1 := hH.2.2.1.2.1.1
  refine g_aload_n (pc' := 1) hX dX1_swapColumns_0 rfl rfl ?_
  refine g_iload_n (pc' := 2) hX dX1_swapColumns_1 rfl rfl ?_
  refine gV1E0 (pc' := 5) hX dX1_swapColumns_2 ml_X1_173 gc_X1 hH.1.h0 hH.1.hk (c_k_isReal hH.1 hH.2.2.1.1.1.2.1 (by omega) (by omega)) (Nat.le_of_ble_eq_true rfl) (by decide) rfl ?_
  refine g_if_eq (pc' := 8) (tgt := 20) hX dX1_swapColumns_5 (by decide) rfl (by omega) (fun h5 => ?_) (fun h5 => ?_)
  · skip
    refine g_iconst (pc' := 21) hX dX1_swapColumns_20 rfl ?_
    refine gS1UX (pc' := 24) hX dX1_swapColumns_21 ml_X1_176 (c_k_needPlace (by omega)) (Nat.le_of_ble_eq_true rfl) (by decide) ⟨by omega, by omega⟩ rfl (fun w2 q => absurd q.1 (by decide)) (fun k2 w2 hk0 hq => ?_)
    obtain ⟨rfl, hz21, hG21⟩ := hq
    exact g_outX hX hF hk0 ⟨by (repeat' split) <;> omega, hG21⟩
  · skip
    refine g_aload_n (pc' := 9) hX dX1_swapColumns_8 rfl rfl ?_
    refine g_iload_n (pc' := 10) hX dX1_swapColumns_9 rfl rfl ?_
    refine gV1E0 (pc' := 13) hX dX1_swapColumns_10 ml_X1_173 gc_X1 hH.1.h0 hH.1.hk (c_k_isReal hH.1 hH.2.2.1.1.1.2.1 (by omega) (by omega)) (Nat.le_of_ble_eq_true rfl) (by decide) rfl ?_
    refine g_if_eq (pc' := 16) (tgt := 20) hX dX1_swapColumns_13 (by decide) rfl (by omega) (fun h13 => ?_) (fun h13 => ?_)
    · skip
      refine g_iconst (pc' := 21) hX dX1_swapColumns_20 rfl ?_
      refine gS1UX (pc' := 24) hX dX1_swapColumns_21 ml_X1_176 (c_k_needPlace (by omega)) (Nat.le_of_ble_eq_true rfl) (by decide) ⟨by omega, by omega⟩ rfl (fun w2 q => absurd q.1 (by decide)) (fun k2 w2 hk0 hq => ?_)
      obtain ⟨rfl, hz21, hG21⟩ := hq
      exact g_outX hX hF hk0 ⟨by (repeat' split) <;> omega, hG21⟩
    · skip
      refine g_iconst (pc' := 17) hX dX1_swapColumns_16 rfl ?_
      refine g_goto (tgt := 21) hX dX1_swapColumns_17 (by decide) ?_
      refine gS1UX (pc' := 24) hX dX1_swapColumns_21 ml_X1_176 (c_k_needPlace (by omega)) (Nat.le_of_ble_eq_true rfl) (by decide) ⟨by omega, by omega⟩ rfl (fun w21 q21 => ?_) (fun k2 w2 hk0 hq => absurd hq.2.1 (by decide))
      obtain ⟨-, hw21⟩ := q21
      rw [hw21]
      refine g_aload_n (pc' := 25) hX dX1_swapColumns_24 rfl rfl ?_
      refine gf_X1_20 (pc' := 28) hX dX1_swapColumns_25 hH.1.h0 hH.1.hk rfl ?_
      refine gV0A (pc' := 31) hX dX1_swapColumns_28 ml_X1_104 gc_J2 hT1.1.h0 hT1.1.1.2.1 (c_j_iterator hH.2.1 hT1.1) (Nat.le_of_ble_eq_true rfl) (by decide) (by omega) rfl (fun r28 w28 q28 => ?_)
      obtain ⟨hI, hk, hG⟩ := q28
      have hT28 : rdw w28 xo 2 = rdw w xo 2 := hG.rd (by rw [hH.1.hk]; decide) id
      refine g_astore_n_3 (pc' := 32) hX dX1_swapColumns_31 (by decide) rfl rfl ?_
      have loop2 : ∀ (g : Nat) (q : Int) (h1 : Int → Int → Int) (v2 : Wd) (x4 : Nat × Int), 0 ≤ q → q ≤ n → YY E xo b n m h1 sn sm sh n (tC m h) e v2 → Gr (fun a _ => ZX xo b w a) w v2 → rdw v2 xo 2 = rdw w xo 2 → IT E v2 r28 (rdw w xo 2) q → (∀ x y : Int, 0 ≤ x → x < n → 0 ≤ y → y < m → h1 x y = if x < q then (if y = r then h x c else if y = c then h x r else h x y) else h x y) → n < q + g → GG X 1 4 v2 32 [(1, xo), (0, r), (0, c), (1, r28), x4] [] := by
        intro g
        induction g with
        | zero => intro q h1 v2 x4 _ _ _ _ _ _ _ hg; exact absurd hg (by omega)
        | succ g ih2 =>
          intro q h1 v2 x4 q0 q1 hY hGz hTe hI hA hg
          refine g_aload_n (pc' := 33) hX dX1_swapColumns_32 rfl rfl ?_
          refine gF0E0 (pc' := 38) hX dX1_swapColumns_33 ml_X1_108_J19 gc_J19 (nn_b hI.1.1) hI.1.2 (c_j_hasNext (hY.al hTe) (by omega) hI ⟨q0, q1⟩) (Nat.le_of_ble_eq_true rfl) (by decide) rfl ?_
          refine g_if_eq (pc' := 41) (tgt := 80) hX dX1_swapColumns_38 (by decide) rfl (by omega) (fun h38 => ?_) (fun h38 => ?_)
          · skip
            refine g_aload_n (pc' := 81) hX dX1_swapColumns_80 rfl rfl ?_
            refine gV0U0 (pc' := 84) hX dX1_swapColumns_81 ml_X1_166 gc_X1 hY.1.h0 hY.1.hk (c_k_cancel hY.1 hY.2.2.2.2) (Nat.le_of_ble_eq_true rfl) (by decide) rfl (fun w81 q81 => ?_)
            have hF2 := (hY.cg (h' := fun x y => if x < n then (if y = r then h x c else if y = c then h x r else h x y) else h x y) (fun x y x0 x1 y0 y1 => by rw [hA x y x0 x1 y0 y1]; (repeat' split) <;> first | rfl | omega)).can hGz q81.1 q81.2
            refine g_aload_n (pc' := 85) hX dX1_swapColumns_84 rfl rfl ?_
            refine g_iload_n (pc' := 86) hX dX1_swapColumns_85 rfl rfl ?_
            refine gV1I (pc' := 89) hX dX1_swapColumns_86 ml_X1_215 gc_X1 hF2.1.1.h0 hF2.1.1.hk (c_k_columnSum hF2.1 (by omega)) (Nat.le_of_ble_eq_true rfl) (by decide) (by omega) rfl (fun r86 w86 q86 => ?_)
            obtain ⟨rfl, hG86⟩ := q86
            exact g_retIX hX hF dX1_swapColumns_89 ⟨by (repeat' split) <;> omega, rfl, hF2.1.nop hG86, GX.nop hF2.2 hG86⟩
          · skip
            refine g_aload_n (pc' := 42) hX dX1_swapColumns_41 rfl rfl ?_
            refine gF0EA0 (pc' := 47) hX dX1_swapColumns_42 ml_X1_114_J19 gc_J19 (nn_b hI.1.1) hI.1.2 (c_j_next (hY.al hTe) hI (by omega)) (Nat.le_of_ble_eq_true rfl) (by decide) rfl ?_
            obtain ⟨hY2, hTe2, hel2, hI2, hGz2⟩ := hY.nxt hTe hI hGz hk
            have hR3 := hel2 q q0 (by omega)
            have hrow := hY2.rowT hTe2 hR3 ⟨q0, by omega⟩
            have hcc := hY2.cell (j := c) hTe2 hR3 ⟨q0, by omega⟩ (by omega)
            have hcr := hY2.cell (j := r) hTe2 hR3 ⟨q0, by omega⟩ (by omega)
            have hbc := (hrow.2 c (by omega) (by omega)).2
            have hbr := (hrow.2 r (by omega) (by omega)).2
            have hqc := hA q c q0 (by omega) (by omega) (by omega)
            have hqr := hA q r q0 (by omega) (by omega) (by omega)
            rw [if_neg (by omega)] at hqc hqr
            rw [hqc] at hcc hbc
            rw [hqr] at hcr hbr
            generalize upw (upw v2 r28 0 (q + 1)) r28 1 q = u2 at *
            refine g_cast (pc' := 50) hX dX1_swapColumns_47 gc_J2 q104 hrow.1.h0 hrow.1.1.2.1 rfl ?_
            refine g_astore_4 (pc' := 52) hX dX1_swapColumns_50 (by decide) rfl rfl ?_
            refine g_aload (pc' := 54) hX dX1_swapColumns_52 rfl rfl ?_
            refine g_iload_n (pc' := 55) hX dX1_swapColumns_54 rfl rfl ?_
            refine g_aload (pc' := 57) hX dX1_swapColumns_55 rfl rfl ?_
            refine g_iload_n (pc' := 58) hX dX1_swapColumns_57 rfl rfl ?_
            refine g_aload (pc' := 60) hX dX1_swapColumns_58 rfl rfl ?_
            refine g_iload_n (pc' := 61) hX dX1_swapColumns_60 rfl rfl ?_
            refine gV1EA0 (pc' := 64) hX dX1_swapColumns_61 ml_X1_131 gc_J2 hrow.1.h0 hrow.1.1.2.1 (c_j_get hrow.1 (by omega)) (Nat.le_of_ble_eq_true rfl) (by decide) rfl ?_
            refine g_cast (pc' := 67) hX dX1_swapColumns_64 gc_J4 q475 hcc.1.1 hcc.1.2.1 rfl ?_
            refine gV2EA0 (pc' := 70) hX dX1_swapColumns_67 ml_X1_181 gc_J2 hrow.1.h0 hrow.1.1.2.1 (c_j_set hrow.1 (by omega) (okr_k hcc.1.2.1 (by omega))) (Nat.le_of_ble_eq_true rfl) (by decide) rfl ?_
            obtain ⟨hY3, hGs, hTe3, hel3, hI3, hbx3⟩ := hY2.setI (j := r) hTe2 hI2 hR3 ⟨q0, by omega⟩ (by omega) hcc (by omega)
            have hR4 := hel3 q q0 (by omega)
            rw [hR3] at hR4
            have hrow4 := hY3.rowT hTe3 hR4 ⟨q0, by omega⟩
            have hcr3 := hbx3 _ _ hcr.1
            generalize hu3 : upw u2 _ r _ = u3 at *
            refine g_cast (pc' := 73) hX dX1_swapColumns_70 gc_J4 q475 hcr3.1 hcr3.2.1 rfl ?_
            refine gV2EA0 (pc' := 76) hX dX1_swapColumns_73 ml_X1_181 gc_J2 hrow4.1.h0 hrow4.1.1.2.1 (c_j_set hrow4.1 (by omega) (okr_k hcr3.2.1 (by omega))) (Nat.le_of_ble_eq_true rfl) (by decide) rfl ?_
            obtain ⟨hY4, hGs4, hTe4, -, hI4, -⟩ := hY3.setI (j := c) hTe3 hI3 hR4 ⟨q0, by omega⟩ (by omega) ⟨hcr3, hcr.2⟩ (by omega)
            generalize upw u3 _ c _ = u4 at *
            refine g_pop (pc' := 77) hX dX1_swapColumns_76 (vR_cat _) rfl ?_
            refine g_goto (tgt := 32) hX dX1_swapColumns_77 (by decide) ?_
            refine ih2 (q + 1) _ _ _ (by omega) (by omega) hY4 (GX.tr (GX.tr hGz2 hGs) hGs4) hTe4 hI4 (fun x y x0 x1 y0 y1 => ?_) (by omega)
            have hj := hA x y x0 x1 y0 y1
            by_cases hxq : x = q
            · subst hxq
              rw [if_pos (show x < x + 1 by omega)]
              by_cases hyc : y = c
              · rw [if_pos (show x = x ∧ y = c from ⟨rfl, hyc⟩)]
                by_cases hyr : y = r
                · rw [if_pos hyr, ← hyc, hyr]
                · rw [if_neg hyr, if_pos hyc]
              · rw [if_neg (fun z => hyc z.2)]
                by_cases hyr : y = r
                · rw [if_pos (show x = x ∧ y = r from ⟨rfl, hyr⟩), if_pos hyr]
                · rw [if_neg (fun z => hyr z.2), if_neg hyr, if_neg hyc, hj, if_neg (by omega)]
            · rw [if_neg (fun z => hxq z.1), if_neg (fun z => hxq z.1), hj]
              (repeat' split) <;> first | rfl | omega
      exact GG_less (loop2 9 0 h w28 _ (by omega) (by omega) (hH.nop hG).yy (NoP.gx hG) hT28 hI (fun x y x0 x1 y0 y1 => by rw [if_neg (by omega)]) (by omega)) (by omega) (by omega)

theorem c_x_fill (hH : XX E xo b n m h sn sm sh e w) (ba0 : -2147483648 ≤ a0 ∧ a0 ≤ 2147483647) (bb0 : -2147483648 ≤ b0 ∧ b0 ≤ 2147483647)  : Call E mX1_fill 8 3 18 [vR xo, vI a0, vI b0] w (qC (if 0 ≤ a0 ∧ a0 ≤ 9999 ∧ 0 ≤ b0 ∧ b0 ≤ 99 then 0 else 2) (sm' (n * m).toNat (fun u => fx a0 (u + 1).toNat % (b0 + 1))) (fun w' => XX E xo b n m (fun i j => if 0 ≤ i ∧ i < n ∧ 0 ≤ j ∧ j < m then fx a0 (i * m + j + 1).toNat % (b0 + 1) else h i j) sn sm sh e.off w' ∧ Gr (fun a _ => ZX xo b w a) w w') w) := by
  refine call_of (av := [(1, xo), (0, a0), (0, b0)]) (by decide +kernel) rfl (Nat.le_of_ble_eq_true rfl) ?_
  intro X hX hF hname
  show GG X 3 18 w 0 [(1, xo), (0, a0), (0, b0), (9, 0), (9, 0), (9, 0), (9, 0), (9, 0)] []
  have hb := hH.2.2.1.1.2
  have hT1 := hH.2.2.1.2.1.1
  refine g_iload_n (pc' := 1) hX dX1_fill_0 rfl rfl ?_
  refine g_i2l (pc' := 2) hX dX1_fill_1 (by omega) rfl ?_
  refine g_lconst (pc' := 3) (v := 0) hX dX1_fill_2 rfl rfl ?_
  refine g_ldc2 (pc' := 6) (n := 9999) hX dX1_fill_3 q1072 rfl rfl ?_
  refine gS3E0 (pc' := 9) hX dX1_fill_6 ml_X1_127 (c_k_isIn (by omega) (by omega) (by omega)) (Nat.le_of_ble_eq_true rfl) (by decide) rfl ?_
  refine g_if_eq (pc' := 12) (tgt := 28) hX dX1_fill_9 (by decide) rfl (by omega) (fun h9 => ?_) (fun h9 => ?_)
  · skip
    refine g_iconst (pc' := 29) hX dX1_fill_28 rfl ?_
    refine gS1UX (pc' := 32) hX dX1_fill_29 ml_X1_162 (c_k_needNumber (by omega)) (Nat.le_of_ble_eq_true rfl) (by decide) ⟨by omega, by omega⟩ rfl (fun w2 q => absurd q.1 (by decide)) (fun k2 w2 hk0 hq => ?_)
    obtain ⟨rfl, hz29, hG29⟩ := hq
    exact g_outX hX hF hk0 ⟨by (repeat' split) <;> omega, hG29⟩
  · skip
    refine g_iload_n (pc' := 13) hX dX1_fill_12 rfl rfl ?_
    refine g_i2l (pc' := 14) hX dX1_fill_13 (by omega) rfl ?_
    refine g_lconst (pc' := 15) (v := 0) hX dX1_fill_14 rfl rfl ?_
    refine g_ldc2 (pc' := 18) (n := 99) hX dX1_fill_15 q1049 rfl rfl ?_
    refine gS3E0 (pc' := 21) hX dX1_fill_18 ml_X1_127 (c_k_isIn (by omega) (by omega) (by omega)) (Nat.le_of_ble_eq_true rfl) (by decide) rfl ?_
    refine g_if_eq (pc' := 24) (tgt := 28) hX dX1_fill_21 (by decide) rfl (by omega) (fun h21 => ?_) (fun h21 => ?_)
    · skip
      refine g_iconst (pc' := 29) hX dX1_fill_28 rfl ?_
      refine gS1UX (pc' := 32) hX dX1_fill_29 ml_X1_162 (c_k_needNumber (by omega)) (Nat.le_of_ble_eq_true rfl) (by decide) ⟨by omega, by omega⟩ rfl (fun w2 q => absurd q.1 (by decide)) (fun k2 w2 hk0 hq => ?_)
      obtain ⟨rfl, hz29, hG29⟩ := hq
      exact g_outX hX hF hk0 ⟨by (repeat' split) <;> omega, hG29⟩
    · skip
      refine g_iconst (pc' := 25) hX dX1_fill_24 rfl ?_
      refine g_goto (tgt := 29) hX dX1_fill_25 (by decide) ?_
      refine gS1UX (pc' := 32) hX dX1_fill_29 ml_X1_162 (c_k_needNumber (by omega)) (Nat.le_of_ble_eq_true rfl) (by decide) ⟨by omega, by omega⟩ rfl (fun w29 q29 => ?_) (fun k2 w2 hk0 hq => absurd hq.2.1 (by decide))
      obtain ⟨-, hw29⟩ := q29
      rw [hw29]
      refine g_iload_n (pc' := 33) hX dX1_fill_32 rfl rfl ?_
      refine g_istore_n_3 (pc' := 34) hX dX1_fill_33 (by decide) rfl rfl ?_
      refine g_iconst (pc' := 35) hX dX1_fill_34 rfl ?_
      refine g_istore_4 (pc' := 37) hX dX1_fill_35 (by decide) rfl rfl ?_
      refine g_aload_n (pc' := 38) hX dX1_fill_37 rfl rfl ?_
      refine gf_X1_20 (pc' := 41) hX dX1_fill_38 hH.1.h0 hH.1.hk rfl ?_
      refine gV0A (pc' := 44) hX dX1_fill_41 ml_X1_104 gc_J2 hT1.1.h0 hT1.1.1.2.1 (c_j_iterator hH.2.1 hT1.1) (Nat.le_of_ble_eq_true rfl) (by decide) (by omega) rfl (fun r41 w41 q41 => ?_)
      obtain ⟨hI, hk, hG⟩ := q41
      have hT41 : rdw w41 xo 2 = rdw w xo 2 := hG.rd (by rw [hH.1.hk]; decide) id
      refine g_astore_5 (pc' := 46) hX dX1_fill_44 (by decide) rfl rfl ?_
      have loop : ∀ (f : Nat) (i : Int) (h1 : Int → Int → Int) (v1 : Wd) (x6 x7 : Nat × Int), 0 ≤ i → i ≤ n → YY E xo b n m h1 sn sm sh n (tC m h) e v1 → Gr (fun a _ => ZX xo b w a) w v1 → rdw v1 xo 2 = rdw w xo 2 → IT E v1 r41 (rdw w xo 2) i → (∀ x y : Int, 0 ≤ x → x < n → 0 ≤ y → y < m → h1 x y = if x < i ∨ (x = i ∧ y < 0) then fx a0 (x * m + y + 1).toNat % (b0 + 1) else h x y) → n < i + f → GG X 1 4 v1 46 [(1, xo), (0, a0), (0, b0), (0, fx a0 (i * m + 0).toNat), (0, sm' (i * m + 0).toNat (fun u => fx a0 (u + 1).toNat % (b0 + 1))), (1, r41), x6, x7] [] := by
        intro f
        induction f with
        | zero => intro i h1 v1 x6 x7 _ _ _ _ _ _ _ hg; exact absurd hg (by omega)
        | succ f ih =>
          intro i h1 v1 x6 x7 i0 i1 hY hGz hTe hI hA hf
          refine g_aload (pc' := 48) hX dX1_fill_46 rfl rfl ?_
          refine gF0E0 (pc' := 53) hX dX1_fill_48 ml_X1_108_J19 gc_J19 (nn_b hI.1.1) hI.1.2 (c_j_hasNext (hY.al hTe) (by omega) hI ⟨i0, i1⟩) (Nat.le_of_ble_eq_true rfl) (by decide) rfl ?_
          refine g_if_eq (pc' := 56) (tgt := 127) hX dX1_fill_53 (by decide) rfl (by omega) (fun h53 => ?_) (fun h53 => ?_)
          · skip
            refine g_aload_n (pc' := 128) hX dX1_fill_127 rfl rfl ?_
            refine gV0U0 (pc' := 131) hX dX1_fill_128 ml_X1_166 gc_X1 hY.1.h0 hY.1.hk (c_k_cancel hY.1 hY.2.2.2.2) (Nat.le_of_ble_eq_true rfl) (by decide) rfl (fun w128 q128 => ?_)
            have hF2 := (hY.cg (h' := fun i j => if 0 ≤ i ∧ i < n ∧ 0 ≤ j ∧ j < m then fx a0 (i * m + j + 1).toNat % (b0 + 1) else h i j) (fun x y x0 x1 y0 y1 => by rw [hA x y x0 x1 y0 y1]; (repeat' split) <;> first | rfl | omega)).can hGz q128.1 q128.2
            refine g_iload (pc' := 133) hX dX1_fill_131 rfl rfl ?_
            exact g_retIX hX hF dX1_fill_133 ⟨by (repeat' split) <;> omega, by rw [show i = n by omega, Int.add_zero], hF2.1, hF2.2⟩
          · skip
            refine g_aload (pc' := 58) hX dX1_fill_56 rfl rfl ?_
            refine gF0EA0 (pc' := 63) hX dX1_fill_58 ml_X1_114_J19 gc_J19 (nn_b hI.1.1) hI.1.2 (c_j_next (hY.al hTe) hI (by omega)) (Nat.le_of_ble_eq_true rfl) (by decide) rfl ?_
            obtain ⟨hY2, hTe2, hel2, hI2, hGz2⟩ := hY.nxt hTe hI hGz hk
            have hR3 := hel2 i i0 (by omega)
            have hrow := hY2.rowT hTe2 hR3 ⟨i0, by omega⟩
            generalize upw (upw v1 r41 0 (i + 1)) r41 1 i = u2 at *
            refine g_cast (pc' := 66) hX dX1_fill_63 gc_J2 q104 hrow.1.h0 hrow.1.1.2.1 rfl ?_
            refine g_astore_6 (pc' := 68) hX dX1_fill_66 (by decide) rfl rfl ?_
            refine g_iconst (pc' := 69) hX dX1_fill_68 rfl ?_
            refine g_istore_7 (pc' := 71) hX dX1_fill_69 (by decide) rfl rfl ?_
            have loop2 : ∀ (g : Nat) (j : Int) (h2 : Int → Int → Int) (v2 : Wd), 0 ≤ j → j ≤ m → YY E xo b n m h2 sn sm sh n (tC m h) e v2 → Gr (fun a _ => ZX xo b w a) w v2 → rdw v2 xo 2 = rdw w xo 2 → el v2 (rdw w xo 2) i = el v1 (rdw w xo 2) i → IT E v2 r41 (rdw w xo 2) (i + 1) → (∀ x y : Int, 0 ≤ x → x < n → 0 ≤ y → y < m → h2 x y = if x < i ∨ (x = i ∧ y < j) then fx a0 (x * m + y + 1).toNat % (b0 + 1) else h x y) → m < j + g → GG X 1 4 v2 71 [(1, xo), (0, a0), (0, b0), (0, fx a0 (i * m + j).toNat), (0, sm' (i * m + j).toNat (fun u => fx a0 (u + 1).toNat % (b0 + 1))), (1, r41), (1, el v1 (rdw w xo 2) i), (0, j)] [] := by
              intro g
              induction g with
              | zero => intro j h2 v2 _ _ _ _ _ _ _ _ hg; exact absurd hg (by omega)
              | succ g ih2 =>
                intro j h2 v2 j0 j1 hY hGz hTe hR4 hI hB hg
                have him : 0 ≤ i * m := Int.mul_nonneg i0 (by omega)
                have hx := fx_b (s := a0) (by omega) (i * m + j).toNat
                have hrow := hY.rowT hTe hR4 ⟨i0, by omega⟩
                refine g_iload (pc' := 73) hX dX1_fill_71 rfl rfl ?_
                refine g_aload_n (pc' := 74) hX dX1_fill_73 rfl rfl ?_
                refine gf_X1_13 (pc' := 77) hX dX1_fill_74 hY.1.h0 hY.1.hk rfl ?_
                rw [hY.2.2.1.1.1.2.1]
                refine g_icmp_ge (pc' := 80) (tgt := 124) hX dX1_fill_77 (by decide) rfl (by omega) (by omega) (fun h77 => ?_) (fun h77 => ?_)
                · skip
                  refine g_goto (tgt := 46) hX dX1_fill_124 (by decide) ?_
                  rw [show j = m by omega] at hB ⊢
                  have ex := ih (i + 1) h2 v2 (1, el v1 (rdw w xo 2) i) (0, m) (by omega) (by omega) hY hGz hTe hI (fun x y x0 x1 y0 y1 => by rw [hB x y x0 x1 y0 y1]; (repeat' split) <;> first | rfl | omega) (by omega)
                  rw [show (i + 1) * m + 0 = i * m + m by rw [Int.add_mul]; omega] at ex
                  exact ex
                · skip
                  refine g_bipush (pc' := 82) hX dX1_fill_80 rfl rfl ?_
                  refine g_iload_n (pc' := 83) hX dX1_fill_82 rfl rfl ?_
                  refine g_imul (pc' := 84) hX dX1_fill_83 rfl ?_
                  refine g_bipush (pc' := 86) hX dX1_fill_84 rfl rfl ?_
                  refine g_iadd (pc' := 87) hX dX1_fill_86 rfl ?_
                  refine g_sipush (pc' := 90) hX dX1_fill_87 rfl rfl ?_
                  refine g_iremP (pc' := 91) hX dX1_fill_90 (by omega) (by omega) rfl ?_
                  refine g_istore_n_3 (pc' := 92) hX dX1_fill_91 (by decide) rfl rfl ?_
                  refine g_aload (pc' := 94) hX dX1_fill_92 rfl rfl ?_
                  refine g_iload (pc' := 96) hX dX1_fill_94 rfl rfl ?_
                  refine g_iload_n (pc' := 97) hX dX1_fill_96 rfl rfl ?_
                  refine g_iload_n (pc' := 98) hX dX1_fill_97 rfl rfl ?_
                  refine g_iconst (pc' := 99) hX dX1_fill_98 rfl ?_
                  refine g_iadd (pc' := 100) hX dX1_fill_99 rfl ?_
                  refine g_iremP (pc' := 101) hX dX1_fill_100 (by omega) (by omega) rfl ?_
                  have hF1 : fx a0 (i * m + j + 1).toNat = (37 * fx a0 (i * m + j).toNat + 11) % 10007 := by rw [show (i * m + j + 1).toNat = (i * m + j).toNat + 1 by omega]; rfl
                  have hv : 0 ≤ (37 * fx a0 (i * m + j).toNat + 11) % 10007 % (b0 + 1) := Int.emod_nonneg _ (by omega)
                  have hv1 : (37 * fx a0 (i * m + j).toNat + 11) % 10007 % (b0 + 1) < b0 + 1 := Int.emod_lt_of_pos _ (by omega)
                  refine gS1EA0 (pc' := 104) hX dX1_fill_101 ml_X1_94 (c_j_valueOf hY.2.1 (by omega)) (Nat.le_of_ble_eq_true rfl) (by decide) rfl ?_
                  refine gV2EA0 (pc' := 107) hX dX1_fill_104 ml_X1_181 gc_J2 hrow.1.h0 hrow.1.1.2.1 (c_j_set hrow.1 (by omega) (okr_k (hY.2.1.bx (by omega)).2.1 (by omega))) (Nat.le_of_ble_eq_true rfl) (by decide) rfl ?_
                  obtain ⟨hY3, hGs, hTe3, hel3, hI3, -⟩ := hY.setI (x := (37 * fx a0 (i * m + j).toNat + 11) % 10007 % (b0 + 1)) (j := j) hTe hI hR4 ⟨i0, by omega⟩ (by omega) (OWval hY.2.1 (by omega)) (by omega)
                  have hR5 := hel3 i i0 (by omega)
                  rw [hR4] at hR5
                  generalize upw v2 _ j _ = u3 at *
                  refine g_pop (pc' := 108) hX dX1_fill_107 (vR_cat _) rfl ?_
                  refine g_iload (pc' := 110) hX dX1_fill_108 rfl rfl ?_
                  refine g_iload_n (pc' := 111) hX dX1_fill_110 rfl rfl ?_
                  refine g_iload_n (pc' := 112) hX dX1_fill_111 rfl rfl ?_
                  refine g_iconst (pc' := 113) hX dX1_fill_112 rfl ?_
                  refine g_iadd (pc' := 114) hX dX1_fill_113 rfl ?_
                  refine g_iremP (pc' := 115) hX dX1_fill_114 (by omega) (by omega) rfl ?_
                  refine g_iadd (pc' := 116) hX dX1_fill_115 rfl ?_
                  refine g_istore_4 (pc' := 118) hX dX1_fill_116 (by decide) rfl rfl ?_
                  refine g_iinc_7 (pc' := 121) hX dX1_fill_118 (by decide) rfl rfl ?_
                  refine g_goto (tgt := 71) hX dX1_fill_121 (by decide) ?_
                  have ex := ih2 (j + 1) _ _ (by omega) (by omega) hY3 (GX.tr hGz hGs) hTe3 hR5 hI3 (fun x y x0 x1 y0 y1 => by
                    have hj := hB x y x0 x1 y0 y1
                    by_cases he : x = i ∧ y = j
                    · rw [if_pos he, if_pos (by omega), he.1, he.2, hF1]
                    · rw [if_neg he, hj]
                      (repeat' split) <;> first | rfl | omega) (by omega)
                  rw [show (i * m + (j + 1)) = (i * m + j) + 1 by omega, sm_s (by omega), hF1] at ex
                  exact ex
            exact GG_less (loop2 9 0 h1 u2 (by omega) (by omega) hY2 hGz2 hTe2 hR3 hI2 hA (by omega)) (by omega) (by omega)
      have ex := loop 9 0 h w41 (9, 0) (9, 0) (by omega) (by omega) (hH.nop hG).yy (NoP.gx hG) hT41 hI (fun x y x0 x1 y0 y1 => by rw [if_neg (by omega)]) (by omega)
      rw [show (0 * m + 0 : Int).toNat = 0 by rw [Int.zero_mul]; rfl] at ex
      exact GG_less ex (by omega) (by omega)

end K7S
