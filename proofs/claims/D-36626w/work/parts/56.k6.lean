/-! THE COMPONENT: changes of the table, row by row (by gen/spec_k6.py) -/
set_option maxRecDepth 100000
set_option maxHeartbeats 4000000
section K6S
variable {E : Ev} {w w0 u u' : Wd} {P : Int → Int → Prop} {T R r c n m sn sm l i j k v a z xo b it x n0 p a0 b0 : Int} {h h' sh C0 : Int → Int → Int} {f : Int → Int} {e : En}
theorem XI.k8 (H : XI E xo b u) (hk : kdw u a = 8) : a ≠ xo ∧ (a < b ∨ b + 31 < a) := by
  refine ⟨fun z => by rw [z, H.hk] at hk; omega, Classical.byContradiction (fun z => ?_)⟩
  have h1 := H.2.1 (a - b) (by omega) (by omega)
  rw [show b + (a - b) = a by omega, hk] at h1
  revert h1
  unfold xK qk pk
  (repeat' split) <;> omega
theorem YY.itr (H : YY E xo b n m h sn sm sh n0 C0 e u) (hI : IT E u it l k) (hG : Gr (fun a _ => a = it) u u') : YY E xo b n m h sn sm sh n0 C0 e u' :=
  H.gr hG (fun a i z => by
    have h1 := H.1.k8 hI.1.2
    have h2 := hI.1
    rw [z]
    exact ⟨h2.1, h1.1, h1.2, Or.inr (Or.inl h2.2)⟩)
theorem GX.itr (hG : Gr (fun a _ => ZX xo b w a) w u) (hk : kdw w it = 0) (hG2 : Gr (fun a _ => a = it) u u') : Gr (fun a _ => ZX xo b w a) w u' := hG.trN hG2 (fun a i hk' z => absurd hk (by rw [← z]; exact hk'))
theorem IT.set {y v0 k0 : Int} (hI : IT E u it l k) (hk : 60 ≤ kdw u y) (hl : kdw u l = 7) : IT E (upw u y k0 v0) it l k :=
  hI.gr (P := fun a _ => a = y) (Gr.rf.up rfl) (fun i z => by have := hI.1.2; rw [z] at this; omega) (fun z => by rw [z] at hl; omega) (by omega)
theorem al_all2 {g : Int → Int} : ∀ {k : Nat}, al g k = 1 → ∀ i : Int, 0 ≤ i → i < k → g i = 1
  | 0, _, i, i0, i1 => absurd i1 (by omega)
  | k + 1, h, i, i0, i1 => by
    unfold al at h
    split at h
    · rename_i hc
      by_cases hi : i = k
      · rw [hi]; exact hc.2
      · exact al_all2 hc.1 i i0 (by omega)
    · omega
theorem tk_v (h1 : tk h v r c = 1) : 0 ≤ h r c ∧ 0 ≤ h r c + v ∧ h r c + v ≤ 99 := by
  unfold tk at h1
  split at h1
  · assumption
  · omega
theorem c_x_addToRow (hH : XX E xo b n m h sn sm sh e w) (br : -2147483648 ≤ r ∧ r ≤ 2147483647) (bv : -2147483648 ≤ v ∧ v ≤ 2147483647)  : Call E mX1_addToRow 8 5 30 [vR xo, vI r, vI v] w (qC (if ¬ (0 ≤ r ∧ r ≤ n - 1) then 1 else if ¬ (-99 ≤ v ∧ v ≤ 99) then 2 else if ¬ (m = n ∧ al (tk h v r) m.toNat = 1) then 3 else 0) (rS n m (fun x y => if x = r ∧ y < m then h x y + v else h x y) r) (fun w' => XX E xo b n m (fun x y => if x = r ∧ y < m then h x y + v else h x y) sn sm sh e.off w' ∧ Gr (fun a _ => ZX xo b w a) w w') w) := by
  refine call_of (av := [(1, xo), (0, r), (0, v)]) (by decide +kernel) rfl (Nat.le_of_ble_eq_true rfl) ?_
  intro X hX hF hname
  show GG X 5 30 w 0 [(1, xo), (0, r), (0, v), (9, 0), (9, 0), (9, 0)] []
  have hb := hH.2.2.1.1.2
  have hT1 := hH.2.2.1.2.1.1
  refine g_aload_n (pc' := 1) hX dX1_addToRow_0 rfl rfl ?_
  refine g_iload_n (pc' := 2) hX dX1_addToRow_1 rfl rfl ?_
  refine gV1E0 (pc' := 5) hX dX1_addToRow_2 ml_X1_169 gc_X1 hH.1.h0 hH.1.hk (c_k_isRow hH.1 hH.2.2.1.1.1.1 (by omega) (by omega)) (Nat.le_of_ble_eq_true rfl) (by decide) rfl ?_
  refine gS1UX (pc' := 8) hX dX1_addToRow_5 ml_X1_176 (c_k_needPlace (by omega)) (Nat.le_of_ble_eq_true rfl) (by decide) ⟨by omega, by omega⟩ rfl (fun w5 q5 => ?_) (fun k2 w2 hk0 hq => by
    obtain ⟨rfl, hz5, hG5⟩ := hq
    exact g_outX hX hF hk0 ⟨by (repeat' split) <;> omega, hG5⟩)
  obtain ⟨hz5, hw5⟩ := q5
  rw [hw5]
  refine g_iload_n (pc' := 9) hX dX1_addToRow_8 rfl rfl ?_
  refine g_i2l (pc' := 10) hX dX1_addToRow_9 (by omega) rfl ?_
  refine g_ldc2 (pc' := 13) (n := -99) hX dX1_addToRow_10 q1099 rfl rfl ?_
  refine g_ldc2 (pc' := 16) (n := 99) hX dX1_addToRow_13 q1049 rfl rfl ?_
  refine gS3E0 (pc' := 19) hX dX1_addToRow_16 ml_X1_127 (c_k_isIn (by omega) (by omega) (by omega)) (Nat.le_of_ble_eq_true rfl) (by decide) rfl ?_
  refine gS1UX (pc' := 22) hX dX1_addToRow_19 ml_X1_162 (c_k_needNumber (by omega)) (Nat.le_of_ble_eq_true rfl) (by decide) ⟨by omega, by omega⟩ rfl (fun w19 q19 => ?_) (fun k2 w2 hk0 hq => by
    obtain ⟨rfl, hz19, hG19⟩ := hq
    exact g_outX hX hF hk0 ⟨by (repeat' split) <;> omega, hG19⟩)
  obtain ⟨hz19, hw19⟩ := q19
  rw [hw19]
  have c39 : ∀ c0 : Int, c0 = (if m = n ∧ al (tk h v r) (0 : Int).toNat = 1 then (1 : Int) else 0) → GG X 3 18 w 39 [(1, xo), (0, r), (0, v), (0, c0), (9, 0), (9, 0)] [] := by
    intro c0 ec0
    subst ec0
    refine g_aload_n (pc' := 40) hX dX1_addToRow_39 rfl rfl ?_
    refine gf_X1_20 (pc' := 43) hX dX1_addToRow_40 hH.1.h0 hH.1.hk rfl ?_
    refine g_iload_n (pc' := 44) hX dX1_addToRow_43 rfl rfl ?_
    refine gV1EA0 (pc' := 47) hX dX1_addToRow_44 ml_X1_131 gc_J2 hT1.1.h0 hT1.1.1.2.1 (c_j_get hT1.1 (by omega)) (Nat.le_of_ble_eq_true rfl) (by decide) rfl ?_
    have hrow := hH.yy.row (i := r) (by omega)
    obtain ⟨R, hR⟩ : ∃ R, R = el w (rdw w xo 2) r := ⟨_, rfl⟩
    rw [← hR] at hrow ⊢
    refine g_cast (pc' := 50) hX dX1_addToRow_47 gc_J2 q104 hrow.1.h0 hrow.1.1.2.1 rfl ?_
    refine gV0A (pc' := 53) hX dX1_addToRow_50 ml_X1_104 gc_J2 hrow.1.h0 hrow.1.1.2.1 (c_j_iterator hH.2.1 hrow.1) (Nat.le_of_ble_eq_true rfl) (by decide) (by omega) rfl (fun r50 w50 q50 => ?_)
    obtain ⟨hI, hk, hG⟩ := q50
    refine g_astore_4 (pc' := 55) hX dX1_addToRow_53 (by decide) rfl rfl ?_
    have loop : ∀ (f : Nat) (j : Int) (u : Wd) (x5 : Nat × Int), 0 ≤ j → j ≤ m → IT E u r50 R j → Gr NoP w u → m < j + f → GG X 2 12 u 55 [(1, xo), (0, r), (0, v), (0, (if m = n ∧ al (tk h v r) j.toNat = 1 then (1 : Int) else 0)), (1, r50), x5] [] := by
      intro f
      induction f with
      | zero => intro j u x5 j0 j1 hI hG hf; exact absurd hf (by omega)
      | succ f ih =>
        intro j u x5 j0 j1 hI hG hf
        have hRu : AL E u R m := by rw [hR]; exact (hT1.out hG hH.2.1 (by omega) (by omega)).2.1
        refine g_aload (pc' := 57) hX dX1_addToRow_55 rfl rfl ?_
        refine gF0E0 (pc' := 62) hX dX1_addToRow_57 ml_X1_108_J19 gc_J19 (nn_b hI.1.1) hI.1.2 (c_j_hasNext hRu (by omega) hI ⟨j0, j1⟩) (Nat.le_of_ble_eq_true rfl) (by decide) rfl ?_
        refine g_if_eq (pc' := 65) (tgt := 116) hX dX1_addToRow_62 (by decide) rfl (by omega) (fun h62 => ?_) (fun h62 => ?_)
        · skip
          refine g_iload_n (pc' := 117) hX dX1_addToRow_116 rfl rfl ?_
          rw [show j = m by omega]
          have ha01 := al_01 (f := tk h v r) m.toNat
          refine gS1UX (pc' := 120) hX dX1_addToRow_117 ml_X1_209 (c_k_needState (by omega)) (Nat.le_of_ble_eq_true rfl) (by decide) ⟨by omega, by omega⟩ rfl (fun w117 q117 => ?_) (fun k2 w2 hk0 hq => by
            obtain ⟨rfl, hz117, hG117⟩ := hq
            exact g_outX hX hF hk0 ⟨by (repeat' split) <;> omega, hG.tr hG117⟩)
          obtain ⟨hz117, hw117⟩ := q117
          rw [hw117]
          have hcan : m = n ∧ al (tk h v r) m.toNat = 1 := by omega
          have hH1 := hH.nop hG
          have hall := al_all2 hcan.2
          refine g_aload_n (pc' := 121) hX dX1_addToRow_120 rfl rfl ?_
          refine gf_X1_20 (pc' := 124) hX dX1_addToRow_121 hH1.1.h0 hH1.1.hk rfl ?_
          refine g_iload_n (pc' := 125) hX dX1_addToRow_124 rfl rfl ?_
          refine gV1EA0 (pc' := 128) hX dX1_addToRow_125 ml_X1_131 gc_J2 hH1.2.2.1.2.1.1.1.h0 hH1.2.2.1.2.1.1.1.1.2.1 (c_j_get hH1.2.2.1.2.1.1.1 (by omega)) (Nat.le_of_ble_eq_true rfl) (by decide) rfl ?_
          have hrow := hH1.yy.row (i := r) (by omega)
          obtain ⟨R2, hR2⟩ : ∃ R2, R2 = el u (rdw u xo 2) r := ⟨_, rfl⟩
          rw [← hR2] at hrow ⊢
          refine g_cast (pc' := 131) hX dX1_addToRow_128 gc_J2 q104 hrow.1.h0 hrow.1.1.2.1 rfl ?_
          refine g_astore_4 (pc' := 133) hX dX1_addToRow_131 (by decide) rfl rfl ?_
          refine g_iconst (pc' := 134) hX dX1_addToRow_133 rfl ?_
          refine g_istore_5 (pc' := 136) hX dX1_addToRow_134 (by decide) rfl rfl ?_
          have loop2 : ∀ (g : Nat) (q : Int) (h1 : Int → Int → Int) (v2 : Wd), 0 ≤ q → q ≤ m → YY E xo b n m h1 sn sm sh n (tC m h) e v2 → Gr (fun a _ => ZX xo b w a) w v2 → el v2 (rdw v2 xo 2) r = R2 → (∀ x y : Int, 0 ≤ x → x < n → 0 ≤ y → y < m → h1 x y = if x = r ∧ y < q then h x y + v else h x y) → m < q + g → GG X 1 4 v2 136 [(1, xo), (0, r), (0, v), (9, 0), (1, R2), (0, q)] [] := by
            intro g
            induction g with
            | zero => intro q h1 v2 _ _ _ _ _ _ hg; exact absurd hg (by omega)
            | succ g ih2 =>
              intro q h1 v2 q0 q1 hY hGz hRu hA hg
              have hrow := hY.row (i := r) (by omega)
              rw [hRu] at hrow
              refine g_iload (pc' := 138) hX dX1_addToRow_136 rfl rfl ?_
              refine g_aload_n (pc' := 139) hX dX1_addToRow_138 rfl rfl ?_
              refine gf_X1_13 (pc' := 142) hX dX1_addToRow_139 hY.1.h0 hY.1.hk rfl ?_
              rw [hY.2.2.1.1.1.2.1]
              refine g_icmp_ge (pc' := 145) (tgt := 177) hX dX1_addToRow_142 (by decide) rfl (by omega) (by omega) (fun h142 => ?_) (fun h142 => ?_)
              · skip
                refine g_aload_n (pc' := 178) hX dX1_addToRow_177 rfl rfl ?_
                refine gV0U0 (pc' := 181) hX dX1_addToRow_178 ml_X1_166 gc_X1 hY.1.h0 hY.1.hk (c_k_cancel hY.1 hY.2.2.2.2) (Nat.le_of_ble_eq_true rfl) (by decide) rfl (fun w178 q178 => ?_)
                have hF2 := (hY.cg (h' := fun x y => if x = r ∧ y < m then h x y + v else h x y) (fun x y x0 x1 y0 y1 => by rw [hA x y x0 x1 y0 y1]; (repeat' split) <;> first | rfl | omega)).can hGz q178.1 q178.2
                refine g_aload_n (pc' := 182) hX dX1_addToRow_181 rfl rfl ?_
                refine g_iload_n (pc' := 183) hX dX1_addToRow_182 rfl rfl ?_
                refine gV1I (pc' := 186) hX dX1_addToRow_183 ml_X1_212 gc_X1 hF2.1.1.h0 hF2.1.1.hk (c_k_rowSum hF2.1 (by omega)) (Nat.le_of_ble_eq_true rfl) (by decide) (by omega) rfl (fun r183 w183 q183 => ?_)
                obtain ⟨rfl, hG183⟩ := q183
                exact g_retIX hX hF dX1_addToRow_186 ⟨by (repeat' split) <;> omega, rfl, hF2.1.nop hG183, GX.nop hF2.2 hG183⟩
              · skip
                refine g_aload (pc' := 147) hX dX1_addToRow_145 rfl rfl ?_
                refine g_iload (pc' := 149) hX dX1_addToRow_147 rfl rfl ?_
                refine g_aload (pc' := 151) hX dX1_addToRow_149 rfl rfl ?_
                refine g_iload (pc' := 153) hX dX1_addToRow_151 rfl rfl ?_
                refine gV1EA0 (pc' := 156) hX dX1_addToRow_153 ml_X1_131 gc_J2 hrow.1.h0 hrow.1.1.2.1 (c_j_get hrow.1 (by omega)) (Nat.le_of_ble_eq_true rfl) (by decide) rfl ?_
                have hbx := hrow.2 q (by omega) (by omega)
                have hq := hA r q (by omega) (by omega) (by omega) (by omega)
                rw [if_neg (by omega)] at hq
                rw [hq] at hbx
                have htk := tk_v (hall q (by omega) (by omega))
                refine g_cast (pc' := 159) hX dX1_addToRow_156 gc_J4 q475 hbx.1.1 hbx.1.2.1 rfl ?_
                refine gV0E0 (pc' := 162) hX dX1_addToRow_159 ml_X1_135 gc_J4 hbx.1.1 hbx.1.2.1 (c_j_intValue hbx.1) (Nat.le_of_ble_eq_true rfl) (by decide) rfl ?_
                refine g_iload_n (pc' := 163) hX dX1_addToRow_162 rfl rfl ?_
                refine g_iadd (pc' := 164) hX dX1_addToRow_163 rfl ?_
                refine gS1EA0 (pc' := 167) hX dX1_addToRow_164 ml_X1_94 (c_j_valueOf hY.2.1 (by omega)) (Nat.le_of_ble_eq_true rfl) (by decide) rfl ?_
                refine gV2EA0 (pc' := 170) hX dX1_addToRow_167 ml_X1_181 gc_J2 hrow.1.h0 hrow.1.1.2.1 (c_j_set hrow.1 (by omega) (okr_k (hY.2.1.bx (by omega)).2.1 (by omega))) (Nat.le_of_ble_eq_true rfl) (by decide) rfl ?_
                have hs4 := hY.setR (i := r) (x := h r q + v) (j := q) hRu (by omega) (by omega) (OWval hY.2.1 (by omega)) (by omega)
                obtain ⟨hY2, hGs, e2, e3⟩ := hs4
                have hRu2 := e3 r (by omega) (by omega)
                rw [hRu] at hRu2
                rw [← e2] at hRu2
                generalize upw v2 _ q _ = u1 at *
                refine g_pop (pc' := 171) hX dX1_addToRow_170 (vR_cat _) rfl ?_
                refine g_iinc_5 (pc' := 174) hX dX1_addToRow_171 (by decide) rfl rfl ?_
                refine g_goto (tgt := 136) hX dX1_addToRow_174 (by decide) ?_
                refine ih2 (q + 1) _ _ (by omega) (by omega) hY2 (GX.tr hGz hGs) hRu2 (fun x y x0 x1 y0 y1 => ?_) (by omega)
                have hj := hA x y x0 x1 y0 y1
                by_cases he : x = r ∧ y = q
                · simp only [if_pos he]
                  rw [if_pos (show x = r ∧ y < q + 1 by omega), he.1, he.2]
                · simp only [if_neg he]
                  rw [hj]
                  (repeat' split) <;> first | rfl | omega
          exact GG_lv (GG_less (loop2 9 0 h u (by omega) (by omega) hH1.yy (NoP.gx hG) hR2.symm (fun x y x0 x1 y0 y1 => by rw [if_neg (by omega)]) (by omega)) (by omega) (by omega)) ⟨Or.inr rfl, Or.inr rfl, Or.inr rfl, Or.inl rfl, Or.inr rfl, Or.inr rfl, trivial⟩
        · skip
          refine g_aload (pc' := 67) hX dX1_addToRow_65 rfl rfl ?_
          refine gF0EA0 (pc' := 72) hX dX1_addToRow_67 ml_X1_114_J19 gc_J19 (nn_b hI.1.1) hI.1.2 (c_j_next hRu hI (by omega)) (Nat.le_of_ble_eq_true rfl) (by decide) rfl ?_
          have hel : el u R j = el w R j := by rw [hR]; exact (hT1.out hG hH.2.1 (by omega) (by omega)).2.2 j j0 (by omega)
          obtain ⟨hbx0, hbb⟩ := hrow.2 j j0 (by omega)
          obtain ⟨hI2, hGi⟩ := hI.nx hRu.1.2.1
          have hG2 : Gr NoP w (upw (upw u r50 0 (j + 1)) r50 1 j) := hG.trN hGi (fun a i hk' z => hk' (by rw [z]; exact hk))
          have hbx := And.intro (hbx0.gr hG2 id) hbb
          rw [hel]
          generalize upw (upw u r50 0 (j + 1)) r50 1 j = u2 at *
          have ha01 := al_01 (f := tk h v r) j.toNat
          have htk : tk h v r j = if 0 ≤ h r j ∧ 0 ≤ h r j + v ∧ h r j + v ≤ 99 then 1 else 0 := rfl
          refine g_cast (pc' := 75) hX dX1_addToRow_72 gc_J4 q475 hbx.1.1 hbx.1.2.1 rfl ?_
          refine g_astore_5 (pc' := 77) hX dX1_addToRow_75 (by decide) rfl rfl ?_
          refine g_iload_n (pc' := 78) hX dX1_addToRow_77 rfl rfl ?_
          refine g_if_eq (pc' := 81) (tgt := 111) hX dX1_addToRow_78 (by decide) rfl (by omega) (fun h78 => ?_) (fun h78 => ?_)
          · skip
            refine g_iconst (pc' := 112) hX dX1_addToRow_111 rfl ?_
            refine g_istore_n_3 (pc' := 113) hX dX1_addToRow_112 (by decide) rfl rfl ?_
            refine g_goto (tgt := 55) hX dX1_addToRow_113 (by decide) ?_
            have ex := fun z => ih (j + 1) _ z (by omega) (by omega) hI2 hG2 (by omega)
            first
              | (rw [show (if m = n ∧ al (tk h v r) (j + 1).toNat = 1 then (1 : Int) else 0) = 1 from by rw [al_s j0]; (repeat' split) <;> omega] at ex; exact ex _)
              | (rw [show (if m = n ∧ al (tk h v r) (j + 1).toNat = 1 then (1 : Int) else 0) = 0 from by rw [al_s j0]; (repeat' split) <;> omega] at ex; exact ex _)
          · skip
            refine g_aload (pc' := 83) hX dX1_addToRow_81 rfl rfl ?_
            refine gV0E0 (pc' := 86) hX dX1_addToRow_83 ml_X1_135 gc_J4 hbx.1.1 hbx.1.2.1 (c_j_intValue hbx.1) (Nat.le_of_ble_eq_true rfl) (by decide) rfl ?_
            refine g_if_lt (pc' := 89) (tgt := 111) hX dX1_addToRow_86 (by decide) rfl (by omega) (fun h86 => ?_) (fun h86 => ?_)
            · skip
              refine g_iconst (pc' := 112) hX dX1_addToRow_111 rfl ?_
              refine g_istore_n_3 (pc' := 113) hX dX1_addToRow_112 (by decide) rfl rfl ?_
              refine g_goto (tgt := 55) hX dX1_addToRow_113 (by decide) ?_
              have ex := fun z => ih (j + 1) _ z (by omega) (by omega) hI2 hG2 (by omega)
              first
                | (rw [show (if m = n ∧ al (tk h v r) (j + 1).toNat = 1 then (1 : Int) else 0) = 1 from by rw [al_s j0]; (repeat' split) <;> omega] at ex; exact ex _)
                | (rw [show (if m = n ∧ al (tk h v r) (j + 1).toNat = 1 then (1 : Int) else 0) = 0 from by rw [al_s j0]; (repeat' split) <;> omega] at ex; exact ex _)
            · skip
              refine g_aload (pc' := 91) hX dX1_addToRow_89 rfl rfl ?_
              refine gV0E0 (pc' := 94) hX dX1_addToRow_91 ml_X1_135 gc_J4 hbx.1.1 hbx.1.2.1 (c_j_intValue hbx.1) (Nat.le_of_ble_eq_true rfl) (by decide) rfl ?_
              refine g_iload_n (pc' := 95) hX dX1_addToRow_94 rfl rfl ?_
              refine g_iadd (pc' := 96) hX dX1_addToRow_95 rfl ?_
              refine g_i2l (pc' := 97) hX dX1_addToRow_96 (by omega) rfl ?_
              refine g_lconst (pc' := 98) (v := 0) hX dX1_addToRow_97 rfl rfl ?_
              refine g_ldc2 (pc' := 101) (n := 99) hX dX1_addToRow_98 q1049 rfl rfl ?_
              refine gS3E0 (pc' := 104) hX dX1_addToRow_101 ml_X1_127 (c_k_isIn (by omega) (by omega) (by omega)) (Nat.le_of_ble_eq_true rfl) (by decide) rfl ?_
              refine g_if_eq (pc' := 107) (tgt := 111) hX dX1_addToRow_104 (by decide) rfl (by omega) (fun h104 => ?_) (fun h104 => ?_)
              · skip
                refine g_iconst (pc' := 112) hX dX1_addToRow_111 rfl ?_
                refine g_istore_n_3 (pc' := 113) hX dX1_addToRow_112 (by decide) rfl rfl ?_
                refine g_goto (tgt := 55) hX dX1_addToRow_113 (by decide) ?_
                have ex := fun z => ih (j + 1) _ z (by omega) (by omega) hI2 hG2 (by omega)
                first
                  | (rw [show (if m = n ∧ al (tk h v r) (j + 1).toNat = 1 then (1 : Int) else 0) = 1 from by rw [al_s j0]; (repeat' split) <;> omega] at ex; exact ex _)
                  | (rw [show (if m = n ∧ al (tk h v r) (j + 1).toNat = 1 then (1 : Int) else 0) = 0 from by rw [al_s j0]; (repeat' split) <;> omega] at ex; exact ex _)
              · skip
                refine g_iconst (pc' := 108) hX dX1_addToRow_107 rfl ?_
                refine g_goto (tgt := 112) hX dX1_addToRow_108 (by decide) ?_
                refine g_istore_n_3 (pc' := 113) hX dX1_addToRow_112 (by decide) rfl rfl ?_
                refine g_goto (tgt := 55) hX dX1_addToRow_113 (by decide) ?_
                have ex := fun z => ih (j + 1) _ z (by omega) (by omega) hI2 hG2 (by omega)
                first
                  | (rw [show (if m = n ∧ al (tk h v r) (j + 1).toNat = 1 then (1 : Int) else 0) = 1 from by rw [al_s j0]; (repeat' split) <;> omega] at ex; exact ex _)
                  | (rw [show (if m = n ∧ al (tk h v r) (j + 1).toNat = 1 then (1 : Int) else 0) = 0 from by rw [al_s j0]; (repeat' split) <;> omega] at ex; exact ex _)
    exact GG_less (loop 9 0 w50 (9, 0) (by omega) (by omega) hI hG (by omega)) (by omega) (by omega)
  refine g_aload_n (pc' := 23) hX dX1_addToRow_22 rfl rfl ?_
  refine gf_X1_13 (pc' := 26) hX dX1_addToRow_23 hH.1.h0 hH.1.hk rfl ?_
  rw [hH.2.2.1.1.1.2.1]
  refine g_aload_n (pc' := 27) hX dX1_addToRow_26 rfl rfl ?_
  refine gf_X1_7 (pc' := 30) hX dX1_addToRow_27 hH.1.h0 hH.1.hk rfl ?_
  rw [hH.2.2.1.1.1.1]
  refine g_icmp_ne (pc' := 33) (tgt := 37) hX dX1_addToRow_30 (by decide) rfl (by omega) (by omega) (fun h30 => ?_) (fun h30 => ?_)
  · skip
    refine g_iconst (pc' := 38) hX dX1_addToRow_37 rfl ?_
    refine g_istore_n_3 (pc' := 39) hX dX1_addToRow_38 (by decide) rfl rfl ?_
    first
      | exact c39 _ (by rw [if_pos ⟨by omega, rfl⟩])
      | exact c39 _ (by rw [if_neg (by omega)])
  · skip
    refine g_iconst (pc' := 34) hX dX1_addToRow_33 rfl ?_
    refine g_goto (tgt := 38) hX dX1_addToRow_34 (by decide) ?_
    refine g_istore_n_3 (pc' := 39) hX dX1_addToRow_38 (by decide) rfl rfl ?_
    first
      | exact c39 _ (by rw [if_pos ⟨by omega, rfl⟩])
      | exact c39 _ (by rw [if_neg (by omega)])

end K6S
