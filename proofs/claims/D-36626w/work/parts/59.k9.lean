/-! THE COMPONENT: resize, save, restore, transpose, mean (by gen/spec_k9.py) -/
set_option maxRecDepth 100000
set_option maxHeartbeats 4000000
section K9S
variable {E : Ev} {w w0 u u' : Wd} {P : Int → Int → Prop} {T R L r c n m n' m' sn sm l l2 i j k v a z xo b it x n0 p : Int} {h h' sh C0 : Int → Int → Int} {f g : Int → Int} {e : En}
theorem OW.fld (hO : OW E u) (hb : (eB E : Int) ≤ xo) : OW E (upw u xo i x) := hO.gr (P := fun a _ => a = xo) (Gr.rf.up rfl) (fun a i z => by rw [z]; exact hb)
theorem c_x_resize (hH : XX E xo b n m h sn sm sh e w) (br : -2147483648 ≤ r ∧ r ≤ 2147483647) (bc : -2147483648 ≤ c ∧ c ≤ 2147483647)  : Call E mX1_resize 8 82 729 [vR xo, vI r, vI c] w (qC (if 1 ≤ r ∧ r ≤ 7 ∧ 1 ≤ c ∧ c ≤ r then 0 else 2) (r * c) (fun w' => XX E xo b r c (fun _ _ => 0) sn sm sh e.off w' ∧ Gr (fun a _ => ZX xo b w a) w w') w) := by
  refine call_of (av := [(1, xo), (0, r), (0, c)]) (by decide +kernel) rfl (Nat.le_of_ble_eq_true rfl) ?_
  intro X hX hF hname
  show GG X 82 729 w 0 [(1, xo), (0, r), (0, c)] []
  have hb := hH.2.2.1.1.2
  have hT1 := hH.2.2.1.2.1.1
  refine g_iload_n (pc' := 1) hX dX1_resize_0 rfl rfl ?_
  refine g_i2l (pc' := 2) hX dX1_resize_1 (by omega) rfl ?_
  refine g_lconst (pc' := 3) (v := 1) hX dX1_resize_2 rfl rfl ?_
  refine g_ldc2 (pc' := 6) (n := 7) hX dX1_resize_3 q999 rfl rfl ?_
  refine gS3E0 (pc' := 9) hX dX1_resize_6 ml_X1_127 (c_k_isIn (by omega) (by omega) (by omega)) (Nat.le_of_ble_eq_true rfl) (by decide) rfl ?_
  refine g_if_eq (pc' := 12) (tgt := 27) hX dX1_resize_9 (by decide) rfl (by omega) (fun h9 => ?_) (fun h9 => ?_)
  · skip
    refine g_iconst (pc' := 28) hX dX1_resize_27 rfl ?_
    refine gS1UX (pc' := 31) hX dX1_resize_28 ml_X1_162 (c_k_needNumber (by omega)) (Nat.le_of_ble_eq_true rfl) (by decide) ⟨by omega, by omega⟩ rfl (fun w2 q => absurd q.1 (by decide)) (fun k2 w2 hk0 hq => ?_)
    obtain ⟨rfl, hz28, hG28⟩ := hq
    exact g_outX hX hF hk0 ⟨by (repeat' split) <;> omega, hG28⟩
  · skip
    refine g_iload_n (pc' := 13) hX dX1_resize_12 rfl rfl ?_
    refine g_i2l (pc' := 14) hX dX1_resize_13 (by omega) rfl ?_
    refine g_lconst (pc' := 15) (v := 1) hX dX1_resize_14 rfl rfl ?_
    refine g_iload_n (pc' := 16) hX dX1_resize_15 rfl rfl ?_
    refine g_i2l (pc' := 17) hX dX1_resize_16 (by omega) rfl ?_
    refine gS3E0 (pc' := 20) hX dX1_resize_17 ml_X1_127 (c_k_isIn (by omega) (by omega) (by omega)) (Nat.le_of_ble_eq_true rfl) (by decide) rfl ?_
    refine g_if_eq (pc' := 23) (tgt := 27) hX dX1_resize_20 (by decide) rfl (by omega) (fun h20 => ?_) (fun h20 => ?_)
    · skip
      refine g_iconst (pc' := 28) hX dX1_resize_27 rfl ?_
      refine gS1UX (pc' := 31) hX dX1_resize_28 ml_X1_162 (c_k_needNumber (by omega)) (Nat.le_of_ble_eq_true rfl) (by decide) ⟨by omega, by omega⟩ rfl (fun w2 q => absurd q.1 (by decide)) (fun k2 w2 hk0 hq => ?_)
      obtain ⟨rfl, hz28, hG28⟩ := hq
      exact g_outX hX hF hk0 ⟨by (repeat' split) <;> omega, hG28⟩
    · skip
      refine g_iconst (pc' := 24) hX dX1_resize_23 rfl ?_
      refine g_goto (tgt := 28) hX dX1_resize_24 (by decide) ?_
      refine gS1UX (pc' := 31) hX dX1_resize_28 ml_X1_162 (c_k_needNumber (by omega)) (Nat.le_of_ble_eq_true rfl) (by decide) ⟨by omega, by omega⟩ rfl (fun w28 q28 => ?_) (fun k2 w2 hk0 hq => absurd hq.2.1 (by decide))
      obtain ⟨-, hw28⟩ := q28
      rw [hw28]
      refine g_aload_n (pc' := 32) hX dX1_resize_31 rfl rfl ?_
      refine g_iload_n (pc' := 33) hX dX1_resize_32 rfl rfl ?_
      refine pf_X1_7 (pc' := 36) hX dX1_resize_33 hH.1.hb hH.1.hk rfl ?_
      skip
      refine g_aload_n (pc' := 37) hX dX1_resize_36 rfl rfl ?_
      refine g_iload_n (pc' := 38) hX dX1_resize_37 rfl rfl ?_
      refine pf_X1_13 (pc' := 41) hX dX1_resize_38 hH.1.hb hH.1.hk rfl ?_
      skip
      refine g_aload_n (pc' := 42) hX dX1_resize_41 rfl rfl ?_
      refine g_iload_n (pc' := 43) hX dX1_resize_42 rfl rfl ?_
      refine g_iload_n (pc' := 44) hX dX1_resize_43 rfl rfl ?_
      refine gS2A (pc' := 47) hX dX1_resize_44 ml_X1_16 (c_k_zeros ((hH.2.1.fld hH.1.hb).fld hH.1.hb) (by omega) (by omega)) (Nat.le_of_ble_eq_true rfl) (by decide) (by omega) rfl (fun r44 w44 q44 => ?_)
      obtain ⟨hTF, hG, hO⟩ := q44
      have hk44 : kdw w44 xo = 1 := (hG.kd (by rw [kd_up, kd_up, hH.1.hk]; decide)).trans hH.1.hk
      refine pf_X1_20 (pc' := 50) hX dX1_resize_47 hH.1.hb hk44 rfl ?_
      have hG2 : Gr (fun a i => a = xo ∧ i ≤ 2) w (upw w44 xo 2 r44) := ((((Gr.rf.up (P := fun a i => a = xo ∧ i ≤ 2) (w0 := w) (a := xo) (i := 0) (x := r) ⟨rfl, by omega⟩).up (a := xo) (i := 1) (x := c) ⟨rfl, by omega⟩).tr (hG.wk (fun _ _ z => z.elim))).up (a := xo) (i := 2) (x := r44) ⟨rfl, by omega⟩)
      have hx44 : ∀ i, rdw w44 xo i = rdw (upw (upw w xo 0 r) xo 1 c) xo i := fun i => hG.rd (by rw [kd_up, kd_up, hH.1.hk]; decide) id
      obtain ⟨hY, hGz⟩ := YY.repl hH hG2 (hTF.fld hO hk44 hH.1.hb) (hO.fld hH.1.hb) (by rw [rd_up_ne (by omega), hx44, rd_up_ne (by omega), rd_up_eq ⟨rfl, rfl⟩]) (by rw [rd_up_ne (by omega), hx44, rd_up_eq ⟨rfl, rfl⟩]) (rd_up_eq ⟨rfl, rfl⟩) (show 1 ≤ c ∧ c ≤ r ∧ r ≤ 7 by omega) (fun _ _ _ _ _ _ => by decide)
      generalize upw w44 xo 2 r44 = u1 at *
      refine g_aload_n (pc' := 51) hX dX1_resize_50 rfl rfl ?_
      refine gV0U0 (pc' := 54) hX dX1_resize_51 ml_X1_166 gc_X1 hY.1.h0 hY.1.hk (c_k_cancel hY.1 hY.2.2.2.2) (Nat.le_of_ble_eq_true rfl) (by decide) rfl (fun w51 q51 => ?_)
      have hF2 := hY.can hGz q51.1 q51.2
      refine g_iload_n (pc' := 55) hX dX1_resize_54 rfl rfl ?_
      refine g_iload_n (pc' := 56) hX dX1_resize_55 rfl rfl ?_
      refine g_imul (pc' := 57) hX dX1_resize_56 rfl ?_
      exact g_retIX hX hF dX1_resize_57 ⟨by rw [if_pos (by omega)], rfl, hF2.1, hF2.2⟩

theorem c_x_save (hH : XX E xo b n m h sn sm sh e w) : Call E mX1_save 6 89 755 [vR xo] w (qI (fun r w' => r = tS n m h ∧ XX E xo b n m h n m h e w' ∧ Gr (fun a _ => ZX xo b w a) w w')) := by
  refine call_of (av := [(1, xo)]) (by decide +kernel) rfl (Nat.le_of_ble_eq_true rfl) ?_
  intro X hX hF hname
  show GG X 89 755 w 0 [(1, xo)] []
  have hb := hH.2.2.1.1.2
  have hT1 := hH.2.2.1.2.1.1
  refine g_aload_n (pc' := 1) hX dX1_save_0 rfl rfl ?_
  refine g_aload_n (pc' := 2) hX dX1_save_1 rfl rfl ?_
  refine gf_X1_7 (pc' := 5) hX dX1_save_2 hH.1.h0 hH.1.hk rfl ?_
  rw [hH.2.2.1.1.1.1]
  refine pf_X1_24 (pc' := 8) hX dX1_save_5 hH.1.hb hH.1.hk rfl ?_
  skip
  refine g_aload_n (pc' := 9) hX dX1_save_8 rfl rfl ?_
  refine g_aload_n (pc' := 10) hX dX1_save_9 rfl rfl ?_
  refine gf_X1_13 (pc' := 13) hX dX1_save_10 hH.1.h0 hH.1.hk rfl ?_
  first
    | rw [hH.2.2.1.1.1.2.1]
    | (repeat rw [rd_up_ne (by omega)]); rw [hH.2.2.1.1.1.2.1]
  refine pf_X1_27 (pc' := 16) hX dX1_save_13 hH.1.hb hH.1.hk rfl ?_
  skip
  refine g_aload_n (pc' := 17) hX dX1_save_16 rfl rfl ?_
  refine g_aload_n (pc' := 18) hX dX1_save_17 rfl rfl ?_
  refine gf_X1_20 (pc' := 21) hX dX1_save_18 hH.1.h0 hH.1.hk rfl ?_
  rw [rd_up_ne (by omega), rd_up_ne (by omega)]
  have hGp : Gr (fun a i => a = xo ∧ 3 ≤ i ∧ i ≤ 5) w (upw (upw w xo 3 n) xo 4 m) := (Gr.rf.up (by omega)).up (by omega)
  have hTp := (hT1.zs hH.1 hH.2.1 hGp (fun a i z => ⟨by rw [z.1]; exact hH.1.hb, Or.inl z.1⟩)).1
  refine gS1A (pc' := 24) hX dX1_save_21 ml_X1_227 (c_k_copyOf ((hH.2.1.fld hH.1.hb).fld hH.1.hb) hTp (by omega) (by omega)) (Nat.le_of_ble_eq_true rfl) (by decide) (by omega) rfl (fun r21 w21 q21 => ?_)
  obtain ⟨hF1, hG, hO⟩ := q21
  have hk21 : kdw w21 xo = 1 := (hG.kd (by rw [kd_up, kd_up, hH.1.hk]; decide)).trans hH.1.hk
  refine pf_X1_30 (pc' := 27) hX dX1_save_24 hH.1.hb hk21 rfl ?_
  have hG2 : Gr (fun a i => a = xo ∧ 3 ≤ i ∧ i ≤ 5) w (upw w21 xo 5 r21) := (hGp.tr (hG.wk (fun _ _ z => z.elim))).up (a := xo) (i := 5) (x := r21) ⟨rfl, by omega, by omega⟩
  have hx21 : ∀ i, rdw w21 xo i = rdw (upw (upw w xo 3 n) xo 4 m) xo i := fun i => hG.rd (by rw [kd_up, kd_up, hH.1.hk]; decide) id
  obtain ⟨hF2, hGz⟩ := hH.replS hG2 (hF1.fld hO hk21 hH.1.hb) (hO.fld hH.1.hb) (by rw [rd_up_ne (by omega), hx21, rd_up_ne (by omega), rd_up_eq ⟨rfl, rfl⟩]) (by rw [rd_up_ne (by omega), hx21, rd_up_eq ⟨rfl, rfl⟩]) (rd_up_eq ⟨rfl, rfl⟩)
  generalize upw w21 xo 5 r21 = u1 at *
  refine g_aload_n (pc' := 28) hX dX1_save_27 rfl rfl ?_
  refine gV0I (pc' := 31) hX dX1_save_28 ml_X1_231 gc_X1 hF2.1.h0 hF2.1.hk (c_k_totalCost hF2) (Nat.le_of_ble_eq_true rfl) (by decide) (by omega) rfl (fun r28 w28 q28 => ?_)
  obtain ⟨rfl, hG28⟩ := q28
  exact g_retI hX hF dX1_save_31 ⟨rfl, hF2.nop hG28, GX.nop hGz hG28⟩

theorem c_x_restore (hH : XX E xo b n m h sn sm sh e w) : Call E mX1_restore 6 82 727 [vR xo] w (qI (fun r w' => r = sn ∧ XX E xo b sn sm sh sn sm sh e.off w' ∧ Gr (fun a _ => ZX xo b w a) w w')) := by
  refine call_of (av := [(1, xo)]) (by decide +kernel) rfl (Nat.le_of_ble_eq_true rfl) ?_
  intro X hX hF hname
  show GG X 82 727 w 0 [(1, xo)] []
  have hb := hH.2.2.1.1.2
  have hT2 := hH.2.2.1.2.1.2.1
  refine g_aload_n (pc' := 1) hX dX1_restore_0 rfl rfl ?_
  refine g_aload_n (pc' := 2) hX dX1_restore_1 rfl rfl ?_
  refine gf_X1_24 (pc' := 5) hX dX1_restore_2 hH.1.h0 hH.1.hk rfl ?_
  rw [hH.2.2.1.1.1.2.2.1]
  refine pf_X1_7 (pc' := 8) hX dX1_restore_5 hH.1.hb hH.1.hk rfl ?_
  skip
  refine g_aload_n (pc' := 9) hX dX1_restore_8 rfl rfl ?_
  refine g_aload_n (pc' := 10) hX dX1_restore_9 rfl rfl ?_
  refine gf_X1_27 (pc' := 13) hX dX1_restore_10 hH.1.h0 hH.1.hk rfl ?_
  rw [rd_up_ne (by omega), hH.2.2.1.1.1.2.2.2]
  refine pf_X1_13 (pc' := 16) hX dX1_restore_13 hH.1.hb hH.1.hk rfl ?_
  skip
  refine g_aload_n (pc' := 17) hX dX1_restore_16 rfl rfl ?_
  refine g_aload_n (pc' := 18) hX dX1_restore_17 rfl rfl ?_
  refine gf_X1_30 (pc' := 21) hX dX1_restore_18 hH.1.h0 hH.1.hk rfl ?_
  rw [rd_up_ne (by omega), rd_up_ne (by omega)]
  have hGp : Gr (fun a i => a = xo ∧ i ≤ 2) w (upw (upw w xo 0 sn) xo 1 sm) := (Gr.rf.up (by omega)).up (by omega)
  have hTp := (hT2.zs hH.1 hH.2.1 hGp (fun a i z => ⟨by rw [z.1]; exact hH.1.hb, Or.inl z.1⟩)).1
  refine gS1A (pc' := 24) hX dX1_restore_21 ml_X1_227 (c_k_copyOf ((hH.2.1.fld hH.1.hb).fld hH.1.hb) hTp (by omega) (by omega)) (Nat.le_of_ble_eq_true rfl) (by decide) (by omega) rfl (fun r21 w21 q21 => ?_)
  obtain ⟨hF1, hG, hO⟩ := q21
  have hk21 : kdw w21 xo = 1 := (hG.kd (by rw [kd_up, kd_up, hH.1.hk]; decide)).trans hH.1.hk
  refine pf_X1_20 (pc' := 27) hX dX1_restore_24 hH.1.hb hk21 rfl ?_
  have hG2 : Gr (fun a i => a = xo ∧ i ≤ 2) w (upw w21 xo 2 r21) := (hGp.tr (hG.wk (fun _ _ z => z.elim))).up (a := xo) (i := 2) (x := r21) ⟨rfl, by omega⟩
  have hx21 : ∀ i, rdw w21 xo i = rdw (upw (upw w xo 0 sn) xo 1 sm) xo i := fun i => hG.rd (by rw [kd_up, kd_up, hH.1.hk]; decide) id
  obtain ⟨hY, hGz⟩ := YY.repl hH hG2 (hF1.fld hO hk21 hH.1.hb) (hO.fld hH.1.hb) (by rw [rd_up_ne (by omega), hx21, rd_up_ne (by omega), rd_up_eq ⟨rfl, rfl⟩]) (by rw [rd_up_ne (by omega), hx21, rd_up_eq ⟨rfl, rfl⟩]) (rd_up_eq ⟨rfl, rfl⟩) hb.2 hH.2.2.1.2.2.2
  generalize upw w21 xo 2 r21 = u1 at *
  refine g_aload_n (pc' := 28) hX dX1_restore_27 rfl rfl ?_
  refine gV0U0 (pc' := 31) hX dX1_restore_28 ml_X1_166 gc_X1 hY.1.h0 hY.1.hk (c_k_cancel hY.1 hY.2.2.2.2) (Nat.le_of_ble_eq_true rfl) (by decide) rfl (fun w28 q28 => ?_)
  have hF2 := hY.can hGz q28.1 q28.2
  refine g_aload_n (pc' := 32) hX dX1_restore_31 rfl rfl ?_
  refine gf_X1_7 (pc' := 35) hX dX1_restore_32 hF2.1.1.h0 hF2.1.1.hk rfl ?_
  rw [hF2.1.2.2.1.1.1.1]
  exact g_retI hX hF dX1_restore_35 ⟨rfl, hF2.1, hF2.2⟩

theorem c_x_transpose (hH : XX E xo b n m h sn sm sh e w)   : Call E mX1_transpose 8 84 740 [vR xo] w (qC (if m < n then 3 else 0) (n) (fun w' => XX E xo b n m (fun x y => if x < n ∧ y < n then h y x else h x y) sn sm sh e.off w' ∧ Gr (fun a _ => ZX xo b w a) w w') w) := by
  refine call_of (av := [(1, xo)]) (by decide +kernel) rfl (Nat.le_of_ble_eq_true rfl) ?_
  intro X hX hF hname
  show GG X 84 740 w 0 [(1, xo), (9, 0), (9, 0), (9, 0), (9, 0), (9, 0)] []
  have hb := hH.2.2.1.1.2
  have hT1 := hH.2.2.1.2.1.1
  refine g_aload_n (pc' := 1) hX dX1_transpose_0 rfl rfl ?_
  refine gf_X1_13 (pc' := 4) hX dX1_transpose_1 hH.1.h0 hH.1.hk rfl ?_
  rw [hH.2.2.1.1.1.2.1]
  refine g_aload_n (pc' := 5) hX dX1_transpose_4 rfl rfl ?_
  refine gf_X1_7 (pc' := 8) hX dX1_transpose_5 hH.1.h0 hH.1.hk rfl ?_
  rw [hH.2.2.1.1.1.1]
  refine g_icmp_ne (pc' := 11) (tgt := 15) hX dX1_transpose_8 (by decide) rfl (by omega) (by omega) (fun h8 => ?_) (fun h8 => ?_)
  · skip
    refine g_iconst (pc' := 16) hX dX1_transpose_15 rfl ?_
    refine gS1UX (pc' := 19) hX dX1_transpose_16 ml_X1_209 (c_k_needState (by omega)) (Nat.le_of_ble_eq_true rfl) (by decide) ⟨by omega, by omega⟩ rfl (fun w2 q => absurd q.1 (by decide)) (fun k2 w2 hk0 hq => ?_)
    obtain ⟨rfl, hz16, hG16⟩ := hq
    exact g_outX hX hF hk0 ⟨by (repeat' split) <;> omega, hG16⟩
  · skip
    refine g_iconst (pc' := 12) hX dX1_transpose_11 rfl ?_
    refine g_goto (tgt := 16) hX dX1_transpose_12 (by decide) ?_
    refine gS1UX (pc' := 19) hX dX1_transpose_16 ml_X1_209 (c_k_needState (by omega)) (Nat.le_of_ble_eq_true rfl) (by decide) ⟨by omega, by omega⟩ rfl (fun w16 q16 => ?_) (fun k2 w2 hk0 hq => absurd hq.2.1 (by decide))
    obtain ⟨-, hw16⟩ := q16
    rw [hw16]
    refine g_newAL (pc' := 26) hX dX1_transpose_19 dX1_transpose_22 dX1_transpose_23 hH.2.1 (by decide) (by omega) (by omega) (by decide) rfl (fun u19 l19 a19 e19 k19 G19 O19 => ?_)
    have hmn : m = n := by omega
    have hA : TF E w u19 l19 0 n (fun x y => h y x) := TF.new Gr.rf a19 e19 k19
    have hT7 : kdw w (rdw w xo 2) = 7 := hT1.1.1.2.1
    refine g_astore_n_1 (pc' := 27) hX dX1_transpose_26 (by decide) rfl rfl ?_
    refine g_iconst (pc' := 28) hX dX1_transpose_27 rfl ?_
    refine g_istore_n_2 (pc' := 29) hX dX1_transpose_28 (by decide) rfl rfl ?_
    have loop : ∀ (f : Nat) (j : Int) (u : Wd) (x3 x4 x5 : Nat × Int), 0 ≤ j → j ≤ n → TF E w u l19 j n (fun x y => h y x) → Gr NoP w u → n < j + f → GG X (10 * (8 - j).toNat) (90 * (8 - j).toNat) u 29 [(1, xo), (1, l19), (0, j), x3, x4, x5] [] := by
      intro f
      induction f with
      | zero => intro j u x3 x4 x5 j0 j1 hA hG hf; exact absurd hf (by omega)
      | succ f ih =>
        intro j u x3 x4 x5 j0 j1 hA hG hf
        have hHu := hH.nop hG
        have hOu := hHu.2.1
        refine g_iload_n (pc' := 30) hX dX1_transpose_29 rfl rfl ?_
        refine g_aload_n (pc' := 31) hX dX1_transpose_30 rfl rfl ?_
        refine gf_X1_7 (pc' := 34) hX dX1_transpose_31 hHu.1.h0 hHu.1.hk rfl ?_
        rw [hHu.2.2.1.1.1.1]
        refine g_icmp_ge (pc' := 37) (tgt := 105) hX dX1_transpose_34 (by decide) rfl (by omega) (by omega) (fun h34 => ?_) (fun h34 => ?_)
        · skip
          refine g_aload_n (pc' := 106) hX dX1_transpose_105 rfl rfl ?_
          refine g_aload_n (pc' := 107) hX dX1_transpose_106 rfl rfl ?_
          refine pf_X1_20 (pc' := 110) hX dX1_transpose_107 hHu.1.hb hHu.1.hk rfl ?_
          rw [show j = n by omega] at hA
          have hG2 : Gr (fun a i => a = xo ∧ i ≤ 2) w (upw u xo 2 l19) := (hG.wk (fun _ _ z => z.elim)).up (a := xo) (i := 2) (x := l19) ⟨rfl, by omega⟩
          obtain ⟨hY, hGz⟩ := YY.repl (n' := n) (m' := m) hH hG2 (by rw [hmn]; exact hA.fld hOu hHu.1.hk hHu.1.hb) (hOu.fld hH.1.hb) (by rw [rd_up_ne (by omega)]; exact hHu.2.2.1.1.1.1) (by rw [rd_up_ne (by omega)]; exact hHu.2.2.1.1.1.2.1) (rd_up_eq ⟨rfl, rfl⟩) hb.1 (fun x y x0 x1 y0 y1 => hH.2.2.1.2.2.1 y x y0 (by omega) x0 (by omega))
          generalize upw u xo 2 l19 = u1 at *
          refine g_aload_n (pc' := 111) hX dX1_transpose_110 rfl rfl ?_
          refine gV0U0 (pc' := 114) hX dX1_transpose_111 ml_X1_166 gc_X1 hY.1.h0 hY.1.hk (c_k_cancel hY.1 hY.2.2.2.2) (Nat.le_of_ble_eq_true rfl) (by decide) rfl (fun w111 q111 => ?_)
          have hF2 := (hY.cg (h' := fun x y => if x < n ∧ y < n then h y x else h x y) (fun x y x0 x1 y0 y1 => by rw [if_pos (by omega)])).can hGz q111.1 q111.2
          refine g_aload_n (pc' := 115) hX dX1_transpose_114 rfl rfl ?_
          refine gf_X1_7 (pc' := 118) hX dX1_transpose_115 hF2.1.1.h0 hF2.1.1.hk rfl ?_
          rw [hF2.1.2.2.1.1.1.1]
          exact g_retIX hX hF dX1_transpose_118 ⟨by rw [if_neg (by omega)], rfl, hF2.1, hF2.2⟩
        · skip
          refine g_newAL (pc' := 44) hX dX1_transpose_37 dX1_transpose_40 dX1_transpose_41 hOu (by decide) (by omega) (by omega) (by decide) rfl (fun u37 l37 a37 e37 k37 G37 O37 => ?_)
          have hA3 := hA.nop G37 hOu
          have hR3 : RF E w u37 l37 0 (fun i => h i j) := RF.new hG a37 e37 k37
          have hG3 := hG.tr G37
          have hne3 : ¬ LSt u37 l19 j l37 := fun z => not_ls_new hA.1 k37 ((hA3.2 l37).mp z)
          have hH3 := hH.nop hG3
          have hx3 : rdw u37 xo 2 = rdw w xo 2 := hG3.rd (by rw [hH.1.hk]; decide) id
          refine g_astore_n_3 (pc' := 45) hX dX1_transpose_44 (by decide) rfl rfl ?_
          refine g_aload_n (pc' := 46) hX dX1_transpose_45 rfl rfl ?_
          refine gf_X1_20 (pc' := 49) hX dX1_transpose_46 hH3.1.h0 hH3.1.hk rfl ?_
          rw [hx3]
          refine gV0A (pc' := 52) hX dX1_transpose_49 ml_X1_104 gc_J2 (hH3.yy.al hx3).h0 (hH3.yy.al hx3).1.2.1 (c_j_iterator O37 (hH3.yy.al hx3)) (Nat.le_of_ble_eq_true rfl) (by decide) (by omega) rfl (fun r49 w49 q49 => ?_)
          obtain ⟨hI, hk0, hGj⟩ := q49
          have hk := hG3.new0 hk0
          have hA4 := (hA3.1.nop hGj O37)
          have hR4 := hR3.nop hGj O37
          have hne4 : ¬ LSt w49 l19 j l37 := fun z => hne3 ((hA4.2 l37).mp z)
          have hG4 := hG3.tr hGj
          refine g_astore_4 (pc' := 54) hX dX1_transpose_52 (by decide) rfl rfl ?_
          have loop2 : ∀ (g : Nat) (i : Int) (v : Wd) (x5 : Nat × Int), 0 ≤ i → i ≤ n → TF E w v l19 j n (fun x y => h y x) → RF E w v l37 i (fun i => h i j) → ¬ LSt v l19 j l37 → IT E v r49 (rdw w xo 2) i → Gr NoP w v → n < i + g → GG X (10 * (7 - j).toNat + 1 + (7 - i).toNat) (90 * (7 - j).toNat + 10 + 10 * (7 - i).toNat) v 54 [(1, xo), (1, l19), (0, j), (1, l37), (1, r49), x5] [] := by
            intro g
            induction g with
            | zero => intro i v x5 _ _ _ _ _ _ _ hg; exact absurd hg (by omega)
            | succ g ih2 =>
              intro i v x5 i0 i1 hA hR hne hI hG hg
              have hOv := hH.2.1.nop hG
              have hTv := (hT1.nop hH.2.1 hG).1.1
              refine g_aload (pc' := 56) hX dX1_transpose_54 rfl rfl ?_
              refine gF0E0 (pc' := 61) hX dX1_transpose_56 ml_X1_108_J19 gc_J19 (nn_b hI.1.1) hI.1.2 (c_j_hasNext hTv (by omega) hI ⟨i0, i1⟩) (Nat.le_of_ble_eq_true rfl) (by decide) rfl ?_
              refine g_if_eq (pc' := 64) (tgt := 93) hX dX1_transpose_61 (by decide) rfl (by omega) (fun h61 => ?_) (fun h61 => ?_)
              · skip
                refine g_aload_n (pc' := 94) hX dX1_transpose_93 rfl rfl ?_
                refine g_aload_n (pc' := 95) hX dX1_transpose_94 rfl rfl ?_
                refine gV1I (pc' := 98) hX dX1_transpose_95 ml_X1_100 gc_J2 hA.1.1.h0 hA.1.1.1.2.1 (c_j_add hOv hA.1.1 (by omega) (okr_k hR.1.1.2.1 (by omega))) (Nat.le_of_ble_eq_true rfl) (by decide) (by omega) rfl (fun r95 w95 q95 => ?_)
                obtain ⟨rfl, hAd⟩ := q95
                rw [show i = n by omega] at hR
                obtain ⟨hA, hG, -⟩ := hA.push hOv hG hR (fun _ _ _ => rfl) hne hAd j0
                generalize hu4 : w95 = u4 at *
                refine g_pop (pc' := 99) hX dX1_transpose_98 (vI_cat _) rfl ?_
                refine g_iinc_2 (pc' := 102) hX dX1_transpose_99 (by decide) rfl rfl ?_
                refine g_goto (tgt := 29) hX dX1_transpose_102 (by decide) ?_
                exact GG_less (ih (j + 1) u4 _ _ _ (by omega) (by omega) hA hG (by omega)) (by omega) (by omega)
              · skip
                refine g_aload (pc' := 66) hX dX1_transpose_64 rfl rfl ?_
                refine gF0EA0 (pc' := 71) hX dX1_transpose_66 ml_X1_114_J19 gc_J19 (nn_b hI.1.1) hI.1.2 (c_j_next hTv hI (by omega)) (Nat.le_of_ble_eq_true rfl) (by decide) rfl ?_
                have hto := hT1.out hG hH.2.1 i0 (show i < n by omega)
                obtain ⟨hI2, hGi⟩ := hI.nx hTv.1.2.1
                have hA2 := hA.itr hI hOv hGi
                have hR2 := hR.itr hI hOv hGi
                have hne2 : ¬ LSt (upw (upw v r49 0 (i + 1)) r49 1 i) l19 j l37 := fun z => hne ((hA2.2 l37).mp z)
                have hG2 : Gr NoP w (upw (upw v r49 0 (i + 1)) r49 1 i) := hG.trN hGi (fun a i hk' z => hk' (by rw [z]; exact hk))
                rw [hto.1]
                generalize upw (upw v r49 0 (i + 1)) r49 1 i = v2 at *
                have hO2 := hH.2.1.nop hG2
                have hto2 := hT1.out hG2 hH.2.1 i0 (show i < n by omega)
                obtain ⟨hbx0, hlt⟩ := hT1.2.2.1 i j i0 (by omega) j0 (by omega)
                have hbx := hbx0.gr hG2 id
                have hTv2 := (hT1.nop hH.2.1 hG2).1.1.1.2.1
                refine g_cast (pc' := 74) hX dX1_transpose_71 gc_J2 q104 hto2.2.1.h0 hto2.2.1.1.2.1 rfl ?_
                refine g_astore_5 (pc' := 76) hX dX1_transpose_74 (by decide) rfl rfl ?_
                refine g_aload_n (pc' := 77) hX dX1_transpose_76 rfl rfl ?_
                refine g_aload (pc' := 79) hX dX1_transpose_77 rfl rfl ?_
                refine g_iload_n (pc' := 80) hX dX1_transpose_79 rfl rfl ?_
                refine gV1EA0 (pc' := 83) hX dX1_transpose_80 ml_X1_131 gc_J2 hto2.2.1.h0 hto2.2.1.1.2.1 (c_j_get hto2.2.1 (by omega)) (Nat.le_of_ble_eq_true rfl) (by decide) rfl ?_
                rw [hto2.2.2 j j0 (by omega)]
                refine g_cast (pc' := 86) hX dX1_transpose_83 gc_J4 q475 hbx.1 hbx.2.1 rfl ?_
                refine gV1I (pc' := 89) hX dX1_transpose_86 ml_X1_100 gc_J2 hR2.1.h0 hR2.1.1.2.1 (c_j_add hO2 hR2.1 (by omega) (okr_k hbx.2.1 (by omega))) (Nat.le_of_ble_eq_true rfl) (by decide) (by omega) rfl (fun r86 w86 q86 => ?_)
                obtain ⟨rfl, hAd⟩ := q86
                have hlw : kdw w l37 = 0 := hR2.2.1.1
                have nT : rdw w xo 2 ≠ l37 := fun z => by rw [z] at hT7; omega
                have hI := hI2.ap hR2.1 hO2 nT hTv2 hAd.2.1
                obtain ⟨hA, hne⟩ := hA2.1.row hO2 hR2.1 hne2 hAd
                obtain ⟨hR, hG, -⟩ := hR2.add hO2 hG2 hAd ⟨hbx, hlt⟩
                refine g_pop (pc' := 90) hX dX1_transpose_89 (vI_cat _) rfl ?_
                refine g_goto (tgt := 54) hX dX1_transpose_90 (by decide) ?_
                exact GG_less (ih2 (i + 1) w86 _ (by omega) (by omega) hA hR hne hI hG (by omega)) (by omega) (by omega)
          exact GG_less (loop2 9 0 w49 x5 (by omega) (by omega) hA4.1 hR4 hne4 hI hG4 (by omega)) (by omega) (by omega)
    exact GG_less (loop 9 0 u19 _ _ _ (by omega) (by omega) hA G19 (by omega)) (by omega) (by omega)

end K9S
