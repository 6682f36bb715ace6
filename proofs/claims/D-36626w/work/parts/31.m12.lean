/-! MODEL: checksum, soundness (by gen/spec_m12.py) -/
set_option maxRecDepth 100000
set_option maxHeartbeats 4000000
section M12
variable {E : Ev} {mo n m sn sm : Int} {h sh : Int → Int → Int} {e : En} {w : Wd}
theorem MM.cFb (hM : MM E mo n m h sn sm sh e w) : 0 ≤ cF n m h ∧ cF n m h ≤ 49 := by
  have hb := hM.1.b
  have h1 := sm_b (k := n.toNat) (f := fun i => sm' m.toNat (fun j => hfg (h i j))) (B := 7) (fun i i0 i1 => by
    have h2 := sm_b (k := m.toNat) (f := fun j => hfg (h i j)) (B := 1) (fun j j0 j1 => by have := hfg_b (v := h i j); omega)
    exact ⟨h2.1, by have := h2.2; omega⟩)
  unfold cF
  exact ⟨h1.1, by have := h1.2; omega⟩
theorem MM.tSb (hM : MM E mo n m h sn sm sh e w) : 0 ≤ tS n m h ∧ tS n m h ≤ 49000 := by
  have hb := hM.1.b
  have h1 := sm_b (k := n.toNat) (f := rS n m h) (B := 7000) (fun i i0 i1 => by
    have h2 := sm_b (k := n.toNat) (f := tC m h i) (B := 1000) (fun j j0 j1 => hM.cB i j i0 (by omega) j0 (by omega))
    unfold rS
    exact ⟨h2.1, by have := h2.2; omega⟩)
  unfold tS
  exact ⟨h1.1, by have := h1.2; omega⟩
theorem MM.fb7 (hM : MM E mo n m h sn sm sh e w) (k : Nat) (hk : k < n.toNat) : (LK n m h).2.2.2.2.2.getD k 0 < n.toNat := (pmN_mem.mp hM.opt.1).2.2 _ (getD_mem (by rw [hM.fl]; exact hk))
theorem c_m_checksum (hM : MM E mo n m h sn sm sh e w) : Call E mX4_checksum 11 0 0 [vR mo] w (qL (fun r w' => r = ckS n m h e.k sn sm sh ∧ MM E mo n m h sn sm sh e w' ∧ Fr (zB mo) w w')) := by
  refine call_of (av := [(1, mo)]) (by decide +kernel) rfl (Nat.le_of_ble_eq_true rfl) ?_
  intro X hX hF hname
  show GG X 0 0 w 0 [(1, mo), (9, 0), (9, 0), (9, 0), (9, 0)] []
  have hb := hM.1.b
  have hsb := hM.2.1.2
  have hW : Fr (zB mo) w w := Fr.rf
  refine g_aload_n (pc' := 1) hX dX4_checksum_0 rfl rfl ?_
  refine gV0U0 (pc' := 4) hX dX4_checksum_1 ml_X4_114 gc_X4 hM.1.h0 hM.1.hk (c_m_lookM hM) (Nat.le_of_ble_eq_true rfl) (by decide) rfl (fun w1 q1 => ?_)
  obtain ⟨hM, hW1, hC, hS⟩ := q1
  have hW := hW.tr (hW1.wk (fun a i z => show zB mo a i by unfold zL at z; unfold zB; omega))
  have hcf := hM.cFb
  have hts := hM.tSb
  have hek := hM.2.2.2.2.2.1
  have hkb := hM.kb.1
  have hcb := hM.cB
  have hsb1 := hM.scB
  have hfl := hM.fl
  have hf7 := hM.fb7
  refine g_ldc2 (pc' := 7) (n := 527) hX dX4_checksum_4 q1861 rfl rfl ?_
  refine g_aload_n (pc' := 8) hX dX4_checksum_7 rfl rfl ?_
  refine gf_X4_7 (pc' := 11) hX dX4_checksum_8 hM.1.h0 hM.1.hk rfl ?_
  rw [hM.1.vn]
  refine g_i2l (pc' := 12) hX dX4_checksum_11 (by omega) rfl ?_
  refine g_ladd (pc' := 13) hX dX4_checksum_12 rfl ?_
  refine g_lstore_n_1 (pc' := 14) hX dX4_checksum_13 (by decide) rfl rfl ?_
  refine g_ldc2 (pc' := 17) (n := 31) hX dX4_checksum_14 q1862 rfl rfl ?_
  refine g_ldc2 (pc' := 20) (n := 31) hX dX4_checksum_17 q1862 rfl rfl ?_
  refine g_lload_n (pc' := 21) hX dX4_checksum_20 rfl rfl ?_
  refine g_lmul (pc' := 22) hX dX4_checksum_21 rfl ?_
  refine g_aload_n (pc' := 23) hX dX4_checksum_22 rfl rfl ?_
  refine gf_X4_13 (pc' := 26) hX dX4_checksum_23 hM.1.h0 hM.1.hk rfl ?_
  rw [hM.1.vm]
  refine g_i2l (pc' := 27) hX dX4_checksum_26 (by omega) rfl ?_
  refine g_ladd (pc' := 28) hX dX4_checksum_27 rfl ?_
  refine g_lmul (pc' := 29) hX dX4_checksum_28 rfl ?_
  refine g_aload_n (pc' := 30) hX dX4_checksum_29 rfl rfl ?_
  refine gV0E0 (pc' := 33) hX dX4_checksum_30 ml_X4_134 gc_X4 hM.1.h0 hM.1.hk (c_m_fbMany hM) (Nat.le_of_ble_eq_true rfl) (by decide) rfl ?_
  refine g_i2l (pc' := 34) hX dX4_checksum_33 (by omega) rfl ?_
  refine g_ladd (pc' := 35) hX dX4_checksum_34 rfl ?_
  refine g_lstore_n_1 (pc' := 36) hX dX4_checksum_35 (by decide) rfl rfl ?_
  refine g_ldc2 (pc' := 39) (n := 31) hX dX4_checksum_36 q1862 rfl rfl ?_
  refine g_ldc2 (pc' := 42) (n := 31) hX dX4_checksum_39 q1862 rfl rfl ?_
  refine g_lload_n (pc' := 43) hX dX4_checksum_42 rfl rfl ?_
  refine g_lmul (pc' := 44) hX dX4_checksum_43 rfl ?_
  refine g_aload_n (pc' := 45) hX dX4_checksum_44 rfl rfl ?_
  refine gV0E0 (pc' := 48) hX dX4_checksum_45 ml_X4_153 gc_X4 hM.1.h0 hM.1.hk (c_m_total hM) (Nat.le_of_ble_eq_true rfl) (by decide) rfl ?_
  refine g_i2l (pc' := 49) hX dX4_checksum_48 (by omega) rfl ?_
  refine g_ladd (pc' := 50) hX dX4_checksum_49 rfl ?_
  refine g_lmul (pc' := 51) hX dX4_checksum_50 rfl ?_
  refine g_aload_n (pc' := 52) hX dX4_checksum_51 rfl rfl ?_
  refine gf_X4_48 (pc' := 55) hX dX4_checksum_52 hM.1.h0 hM.1.hk rfl ?_
  rw [hM.2.2.2.2.1.1]
  refine g_i2l (pc' := 56) hX dX4_checksum_55 (by omega) rfl ?_
  refine g_ladd (pc' := 57) hX dX4_checksum_56 rfl ?_
  refine g_lstore_n_1 (pc' := 58) hX dX4_checksum_57 (by decide) rfl rfl ?_
  refine g_iconst (pc' := 59) hX dX4_checksum_58 rfl ?_
  refine g_istore_n_3 (pc' := 60) hX dX4_checksum_59 (by decide) rfl rfl ?_
  have la1 : ∀ (q : Nat) (i : Int) (x4 : Nat × Int), 0 ≤ i → i ≤ n → (x4 = (9, 0) ∨ x4.1 = 0) → n < i + q → GG X 0 0 w1 60 [(1, mo), (2, hf2 n.toNat (tC m h) i.toNat (ck0 n m h e.k)), (9, 0), (0, i), x4] [] := by
    intro q
    induction q with
    | zero => intro i x4 _ _ _ hq; exact absurd hq (by omega)
    | succ q ih1 =>
      intro i x4 i0 i1 hx4 hq
      refine g_iload_n (pc' := 61) hX dX4_checksum_60 rfl rfl ?_
      refine g_aload_n (pc' := 62) hX dX4_checksum_61 rfl rfl ?_
      refine gf_X4_7 (pc' := 65) hX dX4_checksum_62 hM.1.h0 hM.1.hk rfl ?_
      rw [hM.1.vn]
      refine g_icmp_ge (pc' := 68) (tgt := 107) hX dX4_checksum_65 (by decide) rfl (by omega) (by omega) (fun h65 => ?_) (fun h65 => ?_)
      · skip
        refine g_ldc2 (pc' := 110) (n := 31) hX dX4_checksum_107 q1862 rfl rfl ?_
        refine g_lload_n (pc' := 111) hX dX4_checksum_110 rfl rfl ?_
        refine g_lmul (pc' := 112) hX dX4_checksum_111 rfl ?_
        refine g_aload_n (pc' := 113) hX dX4_checksum_112 rfl rfl ?_
        refine gf_X4_80 (pc' := 116) hX dX4_checksum_113 hM.1.h0 hM.1.hk rfl ?_
        rw [hS.1.1]
        refine g_i2l (pc' := 117) hX dX4_checksum_116 (by omega) rfl ?_
        refine g_ladd (pc' := 118) hX dX4_checksum_117 rfl ?_
        refine g_lstore_n_1 (pc' := 119) hX dX4_checksum_118 (by decide) rfl rfl ?_
        refine g_iconst (pc' := 120) hX dX4_checksum_119 rfl ?_
        refine g_istore_n_3 (pc' := 121) hX dX4_checksum_120 (by decide) rfl rfl ?_
        have lb : ∀ (q : Nat) (i2 : Int) (y4 : Nat × Int), 0 ≤ i2 → i2 ≤ n → (y4 = (9, 0) ∨ y4.1 = 0) → n < i2 + q → GG X 0 0 w1 121 [(1, mo), (2, hf (fun i => (((LK n m h).2.2.2.2.2.getD i.toNat 0 : Nat) : Int)) i2.toNat (ck1 n m h e.k)), (9, 0), (0, i2), y4] [] := by
          intro q
          induction q with
          | zero => intro i2 y4 _ _ _ hq; exact absurd hq (by omega)
          | succ q ihb =>
            intro i2 y4 i20 i21 hy4 hq
            refine g_iload_n (pc' := 122) hX dX4_checksum_121 rfl rfl ?_
            refine g_aload_n (pc' := 123) hX dX4_checksum_122 rfl rfl ?_
            refine gf_X4_7 (pc' := 126) hX dX4_checksum_123 hM.1.h0 hM.1.hk rfl ?_
            rw [hM.1.vn]
            refine g_icmp_ge (pc' := 129) (tgt := 149) hX dX4_checksum_126 (by decide) rfl (by omega) (by omega) (fun h126 => ?_) (fun h126 => ?_)
            · skip
              refine g_ldc2 (pc' := 152) (n := 31) hX dX4_checksum_149 q1862 rfl rfl ?_
              refine g_ldc2 (pc' := 155) (n := 31) hX dX4_checksum_152 q1862 rfl rfl ?_
              refine g_lload_n (pc' := 156) hX dX4_checksum_155 rfl rfl ?_
              refine g_lmul (pc' := 157) hX dX4_checksum_156 rfl ?_
              refine g_aload_n (pc' := 158) hX dX4_checksum_157 rfl rfl ?_
              refine gf_X4_16 (pc' := 161) hX dX4_checksum_158 hM.1.h0 hM.1.hk rfl ?_
              rw [hM.2.1.1.1]
              refine g_i2l (pc' := 162) hX dX4_checksum_161 (by omega) rfl ?_
              refine g_ladd (pc' := 163) hX dX4_checksum_162 rfl ?_
              refine g_lmul (pc' := 164) hX dX4_checksum_163 rfl ?_
              refine g_aload_n (pc' := 165) hX dX4_checksum_164 rfl rfl ?_
              refine gf_X4_19 (pc' := 168) hX dX4_checksum_165 hM.1.h0 hM.1.hk rfl ?_
              rw [hM.2.1.1.2]
              refine g_i2l (pc' := 169) hX dX4_checksum_168 (by omega) rfl ?_
              refine g_ladd (pc' := 170) hX dX4_checksum_169 rfl ?_
              refine g_lstore_n_1 (pc' := 171) hX dX4_checksum_170 (by decide) rfl rfl ?_
              refine g_iconst (pc' := 172) hX dX4_checksum_171 rfl ?_
              refine g_istore_n_3 (pc' := 173) hX dX4_checksum_172 (by decide) rfl rfl ?_
              have lc1 : ∀ (q : Nat) (i : Int) (x4 : Nat × Int), 0 ≤ i → i ≤ sn → (x4 = (9, 0) ∨ x4.1 = 0) → sn < i + q → GG X 0 0 w1 173 [(1, mo), (2, hf2 sn.toNat (tC sm sh) i.toNat (ck2 n m h e.k sn sm)), (9, 0), (0, i), x4] [] := by
                intro q
                induction q with
                | zero => intro i x4 _ _ _ hq; exact absurd hq (by omega)
                | succ q ih1 =>
                  intro i x4 i0 i1 hx4 hq
                  refine g_iload_n (pc' := 174) hX dX4_checksum_173 rfl rfl ?_
                  refine g_aload_n (pc' := 175) hX dX4_checksum_174 rfl rfl ?_
                  refine gf_X4_16 (pc' := 178) hX dX4_checksum_175 hM.1.h0 hM.1.hk rfl ?_
                  rw [hM.2.1.1.1]
                  refine g_icmp_ge (pc' := 181) (tgt := 220) hX dX4_checksum_178 (by decide) rfl (by omega) (by omega) (fun h178 => ?_) (fun h178 => ?_)
                  · skip
                    refine g_lload_n (pc' := 221) hX dX4_checksum_220 rfl rfl ?_
                    exact g_retL hX hF dX4_checksum_221 ⟨by rw [show i = sn by omega]; rfl, hM, hW⟩
                  · skip
                    refine g_iconst (pc' := 182) hX dX4_checksum_181 rfl ?_
                    refine g_istore_4 (pc' := 184) hX dX4_checksum_182 (by decide) rfl rfl ?_
                    have lc2 : ∀ (q : Nat) (j : Int), 0 ≤ j → j ≤ sn → sn < j + q → GG X 0 0 w1 184 [(1, mo), (2, hf ((tC sm sh) i) j.toNat (hf2 sn.toNat (tC sm sh) i.toNat (ck2 n m h e.k sn sm))), (9, 0), (0, i), (0, j)] [] := by
                      intro q
                      induction q with
                      | zero => intro j _ _ hq; exact absurd hq (by omega)
                      | succ q ih2 =>
                        intro j j0 j1 hq
                        refine g_iload (pc' := 186) hX dX4_checksum_184 rfl rfl ?_
                        refine g_aload_n (pc' := 187) hX dX4_checksum_186 rfl rfl ?_
                        refine gf_X4_16 (pc' := 190) hX dX4_checksum_187 hM.1.h0 hM.1.hk rfl ?_
                        rw [hM.2.1.1.1]
                        refine g_icmp_ge (pc' := 193) (tgt := 214) hX dX4_checksum_190 (by decide) rfl (by omega) (by omega) (fun h190 => ?_) (fun h190 => ?_)
                        · skip
                          refine g_iinc_3 (pc' := 217) hX dX4_checksum_214 (by decide) rfl rfl ?_
                          refine g_goto (tgt := 173) hX dX4_checksum_217 (by decide) ?_
                          have ex := ih1 (i + 1) (0, j) (by omega) (by omega) (Or.inr rfl) (by omega)
                          rw [hf2_s i0] at ex
                          rw [show j = sn by omega]
                          rw [show j = sn by omega] at ex
                          exact ex
                        · skip
                          refine g_ldc2 (pc' := 196) (n := 31) hX dX4_checksum_193 q1862 rfl rfl ?_
                          refine g_lload_n (pc' := 197) hX dX4_checksum_196 rfl rfl ?_
                          refine g_lmul (pc' := 198) hX dX4_checksum_197 rfl ?_
                          refine g_aload_n (pc' := 199) hX dX4_checksum_198 rfl rfl ?_
                          refine g_iload_n (pc' := 200) hX dX4_checksum_199 rfl rfl ?_
                          refine g_iload (pc' := 202) hX dX4_checksum_200 rfl rfl ?_
                          refine gV2E0 (pc' := 205) hX dX4_checksum_202 ml_X4_156 gc_X4 hM.1.h0 hM.1.hk (c_m_savedCost hM (by omega) (by omega)) (Nat.le_of_ble_eq_true rfl) (by decide) rfl ?_
                          have hcb1 := hsb1 i j (by omega) (by omega) (by omega) (by omega)
                          refine g_i2l (pc' := 206) hX dX4_checksum_205 (by omega) rfl ?_
                          refine g_ladd (pc' := 207) hX dX4_checksum_206 rfl ?_
                          refine g_lstore_n_1 (pc' := 208) hX dX4_checksum_207 (by decide) rfl rfl ?_
                          refine g_iinc_4 (pc' := 211) hX dX4_checksum_208 (by decide) rfl rfl ?_
                          refine g_goto (tgt := 184) hX dX4_checksum_211 (by decide) ?_
                          have ex := ih2 (j + 1) (by omega) (by omega) (by omega)
                          rw [hf_s j0] at ex
                          exact ex
                    have ex := lc2 8 0 (by omega) (by omega) (by omega)
                    exact ex
              have ex := lc1 8 0 y4 (by omega) (by omega) hy4 (by omega)
              rw [show hf (fun i => (((LK n m h).2.2.2.2.2.getD i.toNat 0 : Nat) : Int)) i2.toNat (ck1 n m h e.k) = hf (fun i => (((LK n m h).2.2.2.2.2.getD i.toNat 0 : Nat) : Int)) n.toNat (ck1 n m h e.k) by rw [show i2 = n by omega]]
              exact ex
            · skip
              refine g_ldc2 (pc' := 132) (n := 31) hX dX4_checksum_129 q1862 rfl rfl ?_
              refine g_lload_n (pc' := 133) hX dX4_checksum_132 rfl rfl ?_
              refine g_lmul (pc' := 134) hX dX4_checksum_133 rfl ?_
              refine g_aload_n (pc' := 135) hX dX4_checksum_134 rfl rfl ?_
              refine gf_X4_45 (pc' := 138) hX dX4_checksum_135 hM.1.h0 hM.1.hk rfl ?_
              rw [hM.1.f 12 (by decide) (show moF 12 = 8 by decide)]
              refine g_iload_n (pc' := 139) hX dX4_checksum_138 rfl rfl ?_
              refine g_ialdL (pc' := 140) hX dX4_checksum_139 (by have := hM.1.h0; omega) (hM.1.k 8 (by decide) (show moK 8 = 50 by decide)) (hM.1.l 8 (by decide) (show moN 8 = 7 by decide)) (by omega) rfl ?_
              rw [hS.2.1 i2 (by omega) (by omega)]
              have hf71 := hf7 i2.toNat (by omega)
              refine g_i2l (pc' := 141) hX dX4_checksum_140 (by omega) rfl ?_
              refine g_ladd (pc' := 142) hX dX4_checksum_141 rfl ?_
              refine g_lstore_n_1 (pc' := 143) hX dX4_checksum_142 (by decide) rfl rfl ?_
              refine g_iinc_3 (pc' := 146) hX dX4_checksum_143 (by decide) rfl rfl ?_
              refine g_goto (tgt := 121) hX dX4_checksum_146 (by decide) ?_
              have ex := ihb (i2 + 1) y4 (by omega) (by omega) hy4 (by omega)
              rw [hf_s i20] at ex
              exact ex
        have ex := lb 8 0 x4 (by omega) (by omega) hx4 (by omega)
        rw [show hf2 n.toNat (tC m h) i.toNat (ck0 n m h e.k) = hf2 n.toNat (tC m h) n.toNat (ck0 n m h e.k) by rw [show i = n by omega]]
        exact ex
      · skip
        refine g_iconst (pc' := 69) hX dX4_checksum_68 rfl ?_
        refine g_istore_4 (pc' := 71) hX dX4_checksum_69 (by decide) rfl rfl ?_
        have la2 : ∀ (q : Nat) (j : Int), 0 ≤ j → j ≤ n → n < j + q → GG X 0 0 w1 71 [(1, mo), (2, hf ((tC m h) i) j.toNat (hf2 n.toNat (tC m h) i.toNat (ck0 n m h e.k))), (9, 0), (0, i), (0, j)] [] := by
          intro q
          induction q with
          | zero => intro j _ _ hq; exact absurd hq (by omega)
          | succ q ih2 =>
            intro j j0 j1 hq
            refine g_iload (pc' := 73) hX dX4_checksum_71 rfl rfl ?_
            refine g_aload_n (pc' := 74) hX dX4_checksum_73 rfl rfl ?_
            refine gf_X4_7 (pc' := 77) hX dX4_checksum_74 hM.1.h0 hM.1.hk rfl ?_
            rw [hM.1.vn]
            refine g_icmp_ge (pc' := 80) (tgt := 101) hX dX4_checksum_77 (by decide) rfl (by omega) (by omega) (fun h77 => ?_) (fun h77 => ?_)
            · skip
              refine g_iinc_3 (pc' := 104) hX dX4_checksum_101 (by decide) rfl rfl ?_
              refine g_goto (tgt := 60) hX dX4_checksum_104 (by decide) ?_
              have ex := ih1 (i + 1) (0, j) (by omega) (by omega) (Or.inr rfl) (by omega)
              rw [hf2_s i0] at ex
              rw [show j = n by omega]
              rw [show j = n by omega] at ex
              exact ex
            · skip
              refine g_ldc2 (pc' := 83) (n := 31) hX dX4_checksum_80 q1862 rfl rfl ?_
              refine g_lload_n (pc' := 84) hX dX4_checksum_83 rfl rfl ?_
              refine g_lmul (pc' := 85) hX dX4_checksum_84 rfl ?_
              refine g_aload_n (pc' := 86) hX dX4_checksum_85 rfl rfl ?_
              refine g_iload_n (pc' := 87) hX dX4_checksum_86 rfl rfl ?_
              refine g_iload (pc' := 89) hX dX4_checksum_87 rfl rfl ?_
              refine gV2E0 (pc' := 92) hX dX4_checksum_89 ml_X4_75 gc_X4 hM.1.h0 hM.1.hk (c_m_costT hM (by omega) (by omega)) (Nat.le_of_ble_eq_true rfl) (by decide) rfl ?_
              have hcb1 := hcb i j (by omega) (by omega) (by omega) (by omega)
              refine g_i2l (pc' := 93) hX dX4_checksum_92 (by omega) rfl ?_
              refine g_ladd (pc' := 94) hX dX4_checksum_93 rfl ?_
              refine g_lstore_n_1 (pc' := 95) hX dX4_checksum_94 (by decide) rfl rfl ?_
              refine g_iinc_4 (pc' := 98) hX dX4_checksum_95 (by decide) rfl rfl ?_
              refine g_goto (tgt := 71) hX dX4_checksum_98 (by decide) ?_
              have ex := ih2 (j + 1) (by omega) (by omega) (by omega)
              rw [hf_s j0] at ex
              exact ex
        have ex := la2 8 0 (by omega) (by omega) (by omega)
        exact ex
  have ex := la1 8 0 _ (by omega) (by omega) (Or.inl rfl) (by omega)
  exact ex

theorem and01' {x y : Int} (hx : x = 1) (hy : y = 1) : Int32.ofInt x &&& Int32.ofInt y = Int32.ofInt 1 := by
  rw [hx, hy]; decide
theorem c_m_fits2 {a : Int} (hM : MM E mo n m h sn sm sh e w) (ha : 0 ≤ a ∧ a ≤ 1000) : Call E mX4_fits 11 0 0 [vR mo, vI a] w (qI (fun r w' => r = (if (LK n m h).2.2.2.2.1 ≤ a then 1 else 0) ∧ MM E mo n m h sn sm sh e w' ∧ Fr (zM mo) w w' ∧ rdw w' mo 17 = (LK n m h).2.2.2.2.1)) := by
  refine call_of (av := [(1, mo), (0, a)]) (by decide +kernel) rfl (Nat.le_of_ble_eq_true rfl) ?_
  intro X hX hF hname
  show GG X 0 0 w 0 [(1, mo), (0, a)] []
  have hb := hM.1.b
  have hsb := hM.2.1.2
  skip
  refine g_aload_n (pc' := 1) hX dX4_fits_0 rfl rfl ?_
  refine g_iload_n (pc' := 2) hX dX4_fits_1 rfl rfl ?_
  refine g_i2l (pc' := 3) hX dX4_fits_2 (by omega) rfl ?_
  refine g_lconst (pc' := 4) (v := 0) hX dX4_fits_3 rfl rfl ?_
  refine g_ldc2 (pc' := 7) (n := 1000) hX dX4_fits_4 q1823 rfl rfl ?_
  refine gS3E0 (pc' := 10) hX dX4_fits_7 ml_X4_63 (c_m_isIn (by omega) (by omega) (by omega)) (Nat.le_of_ble_eq_true rfl) (by decide) rfl ?_
  refine g_if_eq (pc' := 13) (tgt := 17) hX dX4_fits_10 (by decide) rfl (by omega) (fun h10 => absurd h10 (by omega)) (fun h10 => ?_)
  refine g_iconst (pc' := 14) hX dX4_fits_13 rfl ?_
  refine g_goto (tgt := 18) hX dX4_fits_14 (by decide) ?_
  refine gV1I0 (pc' := 21) hX dX4_fits_18 ml_X4_118 gc_X4 hM.1.h0 hM.1.hk (c_m_wrong hM (by omega)) (Nat.le_of_ble_eq_true rfl) (by decide) rfl (fun r18 w18 q18 => ?_)
  obtain ⟨hM, hWA, hR, h4, hr18⟩ := q18
  have hI := hM.1
  have hW : Fr (zB mo) w18 w18 := Fr.rf
  have e0 : r18 = 0 := by omega
  subst e0
  clear hr18
  skip
  refine g_if_eq (pc' := 24) (tgt := 26) hX dX4_fits_21 (by decide) rfl (by omega) (fun h21 => ?_) (fun h21 => absurd h21 (by omega))
  refine g_aload_n (pc' := 27) hX dX4_fits_26 rfl rfl ?_
  refine gV0U0 (pc' := 30) hX dX4_fits_27 ml_X4_114 gc_X4 hM.1.h0 hM.1.hk (c_m_lookM hM) (Nat.le_of_ble_eq_true rfl) (by decide) rfl (fun w27 q27 => ?_)
  obtain ⟨hM, hW1, hC, hS⟩ := q27
  have hW := hW.tr (hW1.wk (fun a i z => show zB mo a i by unfold zL at z; unfold zB; omega))
  refine g_aload_n (pc' := 31) hX dX4_fits_30 rfl rfl ?_
  refine gf_X4_92 (pc' := 34) hX dX4_fits_31 hM.1.h0 hM.1.hk rfl ?_
  rw [hS.1.2.2.2.2]
  have hkb := hM.kb.2.2.2.2
  refine g_iload_n (pc' := 35) hX dX4_fits_34 rfl rfl ?_
  refine g_icmp_gt (pc' := 38) (tgt := 42) hX dX4_fits_35 (by decide) rfl (by omega) (by omega) (fun h35 => ?_) (fun h35 => ?_)
  · skip
    refine g_iconst (pc' := 43) hX dX4_fits_42 rfl ?_
    exact g_retZ hX hF dX4_fits_43 (by omega) ⟨by first | rw [if_pos (by omega)] | rw [if_neg (by omega)], hM, hWA.tr (hW.wk (fun _ _ z => zB_zM z)), hS.1.2.2.2.2⟩
  · skip
    refine g_iconst (pc' := 39) hX dX4_fits_38 rfl ?_
    refine g_goto (tgt := 43) hX dX4_fits_39 (by decide) ?_
    exact g_retZ hX hF dX4_fits_43 (by omega) ⟨by first | rw [if_pos (by omega)] | rw [if_neg (by omega)], hM, hWA.tr (hW.wk (fun _ _ z => zB_zM z)), hS.1.2.2.2.2⟩

theorem c_m_isSound (hM : MM E mo n m h sn sm sh e w) (hz : ∀ k : Int, 0 ≤ k → k < n → tC m h k (((LK n m h).2.2.2.2.2.getD k.toNat 0 : Nat) : Int) - PU n m h k - PV n m h (((LK n m h).2.2.2.2.2.getD k.toNat 0 : Nat) : Int) = 0) (hnn : ∀ k j : Int, 0 ≤ k → k < n → 0 ≤ j → j < n → 0 ≤ tC m h k j - PU n m h k - PV n m h j) (hsum : sm' n.toNat (fun k => PU n m h k + PV n m h k) = (LK n m h).1) (hbest : (if LW n m h 0 < woF (fun k => LW n m h (7 * 0 + k)) 0 n.toNat then LW n m h 0 else woF (fun k => LW n m h (7 * 0 + k)) 0 n.toNat) = (LK n m h).1) (hnar : (LK n m h).2.2.2.2.1 ≤ 1000) : Call E mX4_isSound 13 0 0 [vR mo] w (qI (fun r w' => r = 1 ∧ MM E mo n m h sn sm sh e w' ∧ Fr (zM mo) w w')) := by
  refine call_of (av := [(1, mo)]) (by decide +kernel) rfl (Nat.le_of_ble_eq_true rfl) ?_
  intro X hX hF hname
  show GG X 0 0 w 0 [(1, mo), (9, 0), (9, 0), (9, 0), (9, 0)] []
  have hb := hM.1.b
  have hsb := hM.2.1.2
  have hW : Fr (zB mo) w w := Fr.rf
  refine g_aload_n (pc' := 1) hX dX4_isSound_0 rfl rfl ?_
  refine gV0U0 (pc' := 4) hX dX4_isSound_1 ml_X4_159 gc_X4 hM.1.h0 hM.1.hk (c_m_findPot hM) (Nat.le_of_ble_eq_true rfl) (by decide) rfl (fun w1 q1 => ?_)
  obtain ⟨hM, hW1, hC, hS, hPU, hPV⟩ := q1
  have hW := hW.tr hW1
  have hub := hM.ub
  have hvb := hM.vb
  have hcb := hM.cB
  have hkb := hM.kb
  have hwb := hM.wb
  have hfl := hM.fl
  have hf7 := hM.fb7
  refine g_iconst (pc' := 5) hX dX4_isSound_4 rfl ?_
  refine g_istore_n_1 (pc' := 6) hX dX4_isSound_5 (by decide) rfl rfl ?_
  refine g_iconst (pc' := 7) hX dX4_isSound_6 rfl ?_
  refine g_istore_n_2 (pc' := 8) hX dX4_isSound_7 (by decide) rfl rfl ?_
  refine g_iconst (pc' := 9) hX dX4_isSound_8 rfl ?_
  refine g_istore_n_3 (pc' := 10) hX dX4_isSound_9 (by decide) rfl rfl ?_
  have loop : ∀ (f : Nat) (i : Int) (x4 : Nat × Int), 0 ≤ i → i ≤ n → (x4 = (9, 0) ∨ x4.1 = 0) → n < i + f → GG X 0 0 w1 10 [(1, mo), (0, sm' i.toNat (fun k => PU n m h k + PV n m h k)), (0, 1), (0, i), x4] [] := by
    intro f
    induction f with
    | zero => intro i x4 h0 h1 hx4 hf; exact absurd hf (by omega)
    | succ f ih =>
      intro i x4 h0 h1 hx4 hf
      refine g_iload_n (pc' := 11) hX dX4_isSound_10 rfl rfl ?_
      refine g_aload_n (pc' := 12) hX dX4_isSound_11 rfl rfl ?_
      refine gf_X4_7 (pc' := 15) hX dX4_isSound_12 hM.1.h0 hM.1.hk rfl ?_
      rw [hM.1.vn]
      refine g_icmp_ge (pc' := 18) (tgt := 98) hX dX4_isSound_15 (by decide) rfl (by omega) (by omega) (fun h15 => ?_) (fun h15 => ?_)
      · skip
        have hw0 := hwb 0
        have hwo := woF_b (f := fun k => LW n m h (7 * 0 + k)) (c := 0) (k := n.toNat) (fun k _ _ => (hwb _).1)
        rw [show i.toNat = n.toNat by omega, hsum]
        refine g_aload_n (pc' := 99) hX dX4_isSound_98 rfl rfl ?_
        refine gf_X4_39 (pc' := 102) hX dX4_isSound_99 hM.1.h0 hM.1.hk rfl ?_
        rw [hM.1.f 10 (by decide) (show moF 10 = 6 by decide)]
        refine g_iconst (pc' := 103) hX dX4_isSound_102 rfl ?_
        refine g_ialdL (pc' := 104) hX dX4_isSound_103 (by have := hM.1.h0; omega) (hM.1.k 6 (by decide) (show moK 6 = 50 by decide)) (hM.1.l 6 (by decide) (show moN 6 = 49 by decide)) (by omega) rfl ?_
        rw [hS.2.2 0 (by omega) (by omega)]
        refine g_aload_n (pc' := 105) hX dX4_isSound_104 rfl rfl ?_
        refine g_iconst (pc' := 106) hX dX4_isSound_105 rfl ?_
        refine g_iconst (pc' := 107) hX dX4_isSound_106 rfl ?_
        refine gV2E0 (pc' := 110) hX dX4_isSound_107 ml_X4_165 gc_X4 hM.1.h0 hM.1.hk (c_m_without hM (by omega) (by omega) hS.2.2 hwb) (Nat.le_of_ble_eq_true rfl) (by decide) rfl ?_
        refine g_icmp_ge (pc' := 113) (tgt := 122) hX dX4_isSound_110 (by decide) rfl (by omega) (by omega) (fun h110 => ?_) (fun h110 => ?_)
        · skip
          refine g_aload_n (pc' := 123) hX dX4_isSound_122 rfl rfl ?_
          refine g_iconst (pc' := 124) hX dX4_isSound_123 rfl ?_
          refine g_iconst (pc' := 125) hX dX4_isSound_124 rfl ?_
          refine gV2E0 (pc' := 128) hX dX4_isSound_125 ml_X4_165 gc_X4 hM.1.h0 hM.1.hk (c_m_without hM (by omega) (by omega) hS.2.2 hwb) (Nat.le_of_ble_eq_true rfl) (by decide) rfl ?_
          refine g_istore_n_3 (pc' := 129) hX dX4_isSound_128 (by decide) rfl rfl ?_
          first
            | (rw [if_pos (by omega)] at hbest; rw [hbest])
            | (rw [if_neg (by omega)] at hbest; rw [hbest])
          refine g_iload_n (pc' := 130) hX dX4_isSound_129 rfl rfl ?_
          refine g_if_eq (pc' := 133) (tgt := 184) hX dX4_isSound_130 (by decide) rfl (by omega) (fun h130 => absurd h130 (by omega)) (fun h130 => ?_)
          refine g_iload_n (pc' := 134) hX dX4_isSound_133 rfl rfl ?_
          refine g_aload_n (pc' := 135) hX dX4_isSound_134 rfl rfl ?_
          refine gf_X4_80 (pc' := 138) hX dX4_isSound_135 hM.1.h0 hM.1.hk rfl ?_
          rw [hS.1.1]
          refine g_icmp_ne (pc' := 141) (tgt := 184) hX dX4_isSound_138 (by decide) rfl ⟨by have := hkb.1; omega, by have := hkb.1; omega⟩ ⟨by have := hkb.1; omega, by have := hkb.1; omega⟩ (fun h138 => absurd rfl h138) (fun h138 => ?_)
          refine g_iload_n (pc' := 142) hX dX4_isSound_141 rfl rfl ?_
          refine g_aload_n (pc' := 143) hX dX4_isSound_142 rfl rfl ?_
          refine gf_X4_80 (pc' := 146) hX dX4_isSound_143 hM.1.h0 hM.1.hk rfl ?_
          rw [hS.1.1]
          refine g_icmp_ne (pc' := 149) (tgt := 184) hX dX4_isSound_146 (by decide) rfl ⟨by have := hkb.1; omega, by have := hkb.1; omega⟩ ⟨by have := hkb.1; omega, by have := hkb.1; omega⟩ (fun h146 => absurd rfl h146) (fun h146 => ?_)
          refine g_aload_n (pc' := 150) hX dX4_isSound_149 rfl rfl ?_
          refine g_aload_n (pc' := 151) hX dX4_isSound_150 rfl rfl ?_
          refine gf_X4_92 (pc' := 154) hX dX4_isSound_151 hM.1.h0 hM.1.hk rfl ?_
          rw [hS.1.2.2.2.2]
          have hkn := hkb.2.2.2.2
          refine gV1I0 (pc' := 157) hX dX4_isSound_154 ml_X4_182 gc_X4 hM.1.h0 hM.1.hk (c_m_fits2 hM (by omega)) (Nat.le_of_ble_eq_true rfl) (by decide) rfl (fun r154 w154 q154 => ?_)
          obtain ⟨hr154, hM, hWf, h17⟩ := q154
          have hW := (hW.wk (fun a i z => zB_zM z)).tr hWf
          rw [if_pos (Int.le_refl _)] at hr154
          subst hr154
          refine g_if_eq (pc' := 160) (tgt := 184) hX dX4_isSound_157 (by decide) rfl (by omega) (fun h157 => absurd h157 (by omega)) (fun h157 => ?_)
          refine g_aload_n (pc' := 161) hX dX4_isSound_160 rfl rfl ?_
          refine gf_X4_92 (pc' := 164) hX dX4_isSound_161 hM.1.h0 hM.1.hk rfl ?_
          rw [h17]
          refine g_if_eq (pc' := 167) (tgt := 180) hX dX4_isSound_164 (by decide) rfl (by omega) (fun h164 => ?_) (fun h164 => ?_)
          · skip
            refine g_iconst (pc' := 181) hX dX4_isSound_180 rfl ?_
            refine g_goto (tgt := 185) hX dX4_isSound_181 (by decide) ?_
            exact g_retZ hX hF dX4_isSound_185 (by omega) ⟨rfl, hM, hW⟩
          · skip
            refine g_aload_n (pc' := 168) hX dX4_isSound_167 rfl rfl ?_
            refine g_aload_n (pc' := 169) hX dX4_isSound_168 rfl rfl ?_
            refine gf_X4_92 (pc' := 172) hX dX4_isSound_169 hM.1.h0 hM.1.hk rfl ?_
            rw [h17]
            refine g_iconst (pc' := 173) hX dX4_isSound_172 rfl ?_
            refine g_isub (pc' := 174) hX dX4_isSound_173 rfl ?_
            refine gV1I0 (pc' := 177) hX dX4_isSound_174 ml_X4_182 gc_X4 hM.1.h0 hM.1.hk (c_m_fits2 hM (by omega)) (Nat.le_of_ble_eq_true rfl) (by decide) rfl (fun r174 w174 q174 => ?_)
            obtain ⟨hr174, hM, hWf, h17⟩ := q174
            have hW := hW.tr hWf
            rw [if_neg (by omega)] at hr174
            subst hr174
            refine g_if_ne (pc' := 180) (tgt := 184) hX dX4_isSound_177 (by decide) rfl (by omega) (fun h177 => absurd h177 (by omega)) (fun h177 => ?_)
            refine g_iconst (pc' := 181) hX dX4_isSound_180 rfl ?_
            refine g_goto (tgt := 185) hX dX4_isSound_181 (by decide) ?_
            exact g_retZ hX hF dX4_isSound_185 (by omega) ⟨rfl, hM, hW⟩
        · skip
          refine g_aload_n (pc' := 114) hX dX4_isSound_113 rfl rfl ?_
          refine gf_X4_39 (pc' := 117) hX dX4_isSound_114 hM.1.h0 hM.1.hk rfl ?_
          rw [hM.1.f 10 (by decide) (show moF 10 = 6 by decide)]
          refine g_iconst (pc' := 118) hX dX4_isSound_117 rfl ?_
          refine g_ialdL (pc' := 119) hX dX4_isSound_118 (by have := hM.1.h0; omega) (hM.1.k 6 (by decide) (show moK 6 = 50 by decide)) (hM.1.l 6 (by decide) (show moN 6 = 49 by decide)) (by omega) rfl ?_
          rw [hS.2.2 0 (by omega) (by omega)]
          refine g_goto (tgt := 128) hX dX4_isSound_119 (by decide) ?_
          refine g_istore_n_3 (pc' := 129) hX dX4_isSound_128 (by decide) rfl rfl ?_
          first
            | (rw [if_pos (by omega)] at hbest; rw [hbest])
            | (rw [if_neg (by omega)] at hbest; rw [hbest])
          refine g_iload_n (pc' := 130) hX dX4_isSound_129 rfl rfl ?_
          refine g_if_eq (pc' := 133) (tgt := 184) hX dX4_isSound_130 (by decide) rfl (by omega) (fun h130 => absurd h130 (by omega)) (fun h130 => ?_)
          refine g_iload_n (pc' := 134) hX dX4_isSound_133 rfl rfl ?_
          refine g_aload_n (pc' := 135) hX dX4_isSound_134 rfl rfl ?_
          refine gf_X4_80 (pc' := 138) hX dX4_isSound_135 hM.1.h0 hM.1.hk rfl ?_
          rw [hS.1.1]
          refine g_icmp_ne (pc' := 141) (tgt := 184) hX dX4_isSound_138 (by decide) rfl ⟨by have := hkb.1; omega, by have := hkb.1; omega⟩ ⟨by have := hkb.1; omega, by have := hkb.1; omega⟩ (fun h138 => absurd rfl h138) (fun h138 => ?_)
          refine g_iload_n (pc' := 142) hX dX4_isSound_141 rfl rfl ?_
          refine g_aload_n (pc' := 143) hX dX4_isSound_142 rfl rfl ?_
          refine gf_X4_80 (pc' := 146) hX dX4_isSound_143 hM.1.h0 hM.1.hk rfl ?_
          rw [hS.1.1]
          refine g_icmp_ne (pc' := 149) (tgt := 184) hX dX4_isSound_146 (by decide) rfl ⟨by have := hkb.1; omega, by have := hkb.1; omega⟩ ⟨by have := hkb.1; omega, by have := hkb.1; omega⟩ (fun h146 => absurd rfl h146) (fun h146 => ?_)
          refine g_aload_n (pc' := 150) hX dX4_isSound_149 rfl rfl ?_
          refine g_aload_n (pc' := 151) hX dX4_isSound_150 rfl rfl ?_
          refine gf_X4_92 (pc' := 154) hX dX4_isSound_151 hM.1.h0 hM.1.hk rfl ?_
          rw [hS.1.2.2.2.2]
          have hkn := hkb.2.2.2.2
          refine gV1I0 (pc' := 157) hX dX4_isSound_154 ml_X4_182 gc_X4 hM.1.h0 hM.1.hk (c_m_fits2 hM (by omega)) (Nat.le_of_ble_eq_true rfl) (by decide) rfl (fun r154 w154 q154 => ?_)
          obtain ⟨hr154, hM, hWf, h17⟩ := q154
          have hW := (hW.wk (fun a i z => zB_zM z)).tr hWf
          rw [if_pos (Int.le_refl _)] at hr154
          subst hr154
          refine g_if_eq (pc' := 160) (tgt := 184) hX dX4_isSound_157 (by decide) rfl (by omega) (fun h157 => absurd h157 (by omega)) (fun h157 => ?_)
          refine g_aload_n (pc' := 161) hX dX4_isSound_160 rfl rfl ?_
          refine gf_X4_92 (pc' := 164) hX dX4_isSound_161 hM.1.h0 hM.1.hk rfl ?_
          rw [h17]
          refine g_if_eq (pc' := 167) (tgt := 180) hX dX4_isSound_164 (by decide) rfl (by omega) (fun h164 => ?_) (fun h164 => ?_)
          · skip
            refine g_iconst (pc' := 181) hX dX4_isSound_180 rfl ?_
            refine g_goto (tgt := 185) hX dX4_isSound_181 (by decide) ?_
            exact g_retZ hX hF dX4_isSound_185 (by omega) ⟨rfl, hM, hW⟩
          · skip
            refine g_aload_n (pc' := 168) hX dX4_isSound_167 rfl rfl ?_
            refine g_aload_n (pc' := 169) hX dX4_isSound_168 rfl rfl ?_
            refine gf_X4_92 (pc' := 172) hX dX4_isSound_169 hM.1.h0 hM.1.hk rfl ?_
            rw [h17]
            refine g_iconst (pc' := 173) hX dX4_isSound_172 rfl ?_
            refine g_isub (pc' := 174) hX dX4_isSound_173 rfl ?_
            refine gV1I0 (pc' := 177) hX dX4_isSound_174 ml_X4_182 gc_X4 hM.1.h0 hM.1.hk (c_m_fits2 hM (by omega)) (Nat.le_of_ble_eq_true rfl) (by decide) rfl (fun r174 w174 q174 => ?_)
            obtain ⟨hr174, hM, hWf, h17⟩ := q174
            have hW := hW.tr hWf
            rw [if_neg (by omega)] at hr174
            subst hr174
            refine g_if_ne (pc' := 180) (tgt := 184) hX dX4_isSound_177 (by decide) rfl (by omega) (fun h177 => absurd h177 (by omega)) (fun h177 => ?_)
            refine g_iconst (pc' := 181) hX dX4_isSound_180 rfl ?_
            refine g_goto (tgt := 185) hX dX4_isSound_181 (by decide) ?_
            exact g_retZ hX hF dX4_isSound_185 (by omega) ⟨rfl, hM, hW⟩
      · skip
        refine g_iload_n (pc' := 19) hX dX4_isSound_18 rfl rfl ?_
        refine g_aload_n (pc' := 20) hX dX4_isSound_19 rfl rfl ?_
        refine gf_X4_54 (pc' := 23) hX dX4_isSound_20 hM.1.h0 hM.1.hk rfl ?_
        rw [hM.1.f 22 (by decide) (show moF 22 = 10 by decide)]
        refine g_iload_n (pc' := 24) hX dX4_isSound_23 rfl rfl ?_
        refine g_ialdL (pc' := 25) hX dX4_isSound_24 (by have := hM.1.h0; omega) (hM.1.k 10 (by decide) (show moK 10 = 50 by decide)) (hM.1.l 10 (by decide) (show moN 10 = 7 by decide)) (by omega) rfl ?_
        rw [hPU i (by omega) (by omega)]
        refine g_aload_n (pc' := 26) hX dX4_isSound_25 rfl rfl ?_
        refine gf_X4_57 (pc' := 29) hX dX4_isSound_26 hM.1.h0 hM.1.hk rfl ?_
        rw [hM.1.f 23 (by decide) (show moF 23 = 11 by decide)]
        refine g_iload_n (pc' := 30) hX dX4_isSound_29 rfl rfl ?_
        refine g_ialdL (pc' := 31) hX dX4_isSound_30 (by have := hM.1.h0; omega) (hM.1.k 11 (by decide) (show moK 11 = 50 by decide)) (hM.1.l 11 (by decide) (show moN 11 = 7 by decide)) (by omega) rfl ?_
        rw [hPV i (by omega) (by omega)]
        refine g_iadd (pc' := 32) hX dX4_isSound_31 rfl ?_
        refine g_iadd (pc' := 33) hX dX4_isSound_32 rfl ?_
        refine g_istore_n_1 (pc' := 34) hX dX4_isSound_33 (by decide) rfl rfl ?_
        refine g_iload_n (pc' := 35) hX dX4_isSound_34 rfl rfl ?_
        refine g_aload_n (pc' := 36) hX dX4_isSound_35 rfl rfl ?_
        refine g_iload_n (pc' := 37) hX dX4_isSound_36 rfl rfl ?_
        refine g_aload_n (pc' := 38) hX dX4_isSound_37 rfl rfl ?_
        refine gf_X4_45 (pc' := 41) hX dX4_isSound_38 hM.1.h0 hM.1.hk rfl ?_
        rw [hM.1.f 12 (by decide) (show moF 12 = 8 by decide)]
        refine g_iload_n (pc' := 42) hX dX4_isSound_41 rfl rfl ?_
        refine g_ialdL (pc' := 43) hX dX4_isSound_42 (by have := hM.1.h0; omega) (hM.1.k 8 (by decide) (show moK 8 = 50 by decide)) (hM.1.l 8 (by decide) (show moN 8 = 7 by decide)) (by omega) rfl ?_
        rw [hS.2.1 i (by omega) (by omega)]
        have hf71 := hf7 i.toNat (by omega)
        refine gV2E0 (pc' := 46) hX dX4_isSound_43 ml_X4_162 gc_X4 hM.1.h0 hM.1.hk (c_m_reduced hM (by omega) (by omega)) (Nat.le_of_ble_eq_true rfl) (by decide) rfl ?_
        rw [hC i _ (by omega) (by omega) (by omega) (by omega), hPU i (by omega) (by omega), hPV _ (by omega) (by omega), hz i (by omega) (by omega)]
        refine g_if_ne (pc' := 49) (tgt := 53) hX dX4_isSound_46 (by decide) rfl (by omega) (fun h46 => absurd h46 (by omega)) (fun h46 => ?_)
        refine g_iconst (pc' := 50) hX dX4_isSound_49 rfl ?_
        refine g_goto (tgt := 54) hX dX4_isSound_50 (by decide) ?_
        refine g_iand (pc' := 55) (1) hX dX4_isSound_54 (and01' rfl rfl) rfl ?_
        refine g_istore_n_2 (pc' := 56) hX dX4_isSound_55 (by decide) rfl rfl ?_
        refine g_iconst (pc' := 57) hX dX4_isSound_56 rfl ?_
        refine g_istore_4 (pc' := 59) hX dX4_isSound_57 (by decide) rfl rfl ?_
        have loop2 : ∀ (q : Nat) (j : Int), 0 ≤ j → j ≤ n → n < j + q → GG X 0 0 w1 59 [(1, mo), (0, sm' i.toNat (fun k => PU n m h k + PV n m h k) + (PU n m h i + PV n m h i)), (0, 1), (0, i), (0, j)] [] := by
          intro q
          induction q with
          | zero => intro j _ _ hq; exact absurd hq (by omega)
          | succ q ih2 =>
            intro j j0 j1 hq
            refine g_iload (pc' := 61) hX dX4_isSound_59 rfl rfl ?_
            refine g_aload_n (pc' := 62) hX dX4_isSound_61 rfl rfl ?_
            refine gf_X4_7 (pc' := 65) hX dX4_isSound_62 hM.1.h0 hM.1.hk rfl ?_
            rw [hM.1.vn]
            refine g_icmp_ge (pc' := 68) (tgt := 92) hX dX4_isSound_65 (by decide) rfl (by omega) (by omega) (fun h65 => ?_) (fun h65 => ?_)
            · skip
              refine g_iinc_3 (pc' := 95) hX dX4_isSound_92 (by decide) rfl rfl ?_
              refine g_goto (tgt := 10) hX dX4_isSound_95 (by decide) ?_
              have ex := ih (i + 1) (0, j) (by omega) (by omega) (Or.inr rfl) (by omega)
              rw [sm_s h0] at ex
              exact ex
            · skip
              refine g_iload_n (pc' := 69) hX dX4_isSound_68 rfl rfl ?_
              refine g_aload_n (pc' := 70) hX dX4_isSound_69 rfl rfl ?_
              refine g_iload_n (pc' := 71) hX dX4_isSound_70 rfl rfl ?_
              refine g_iload (pc' := 73) hX dX4_isSound_71 rfl rfl ?_
              refine gV2E0 (pc' := 76) hX dX4_isSound_73 ml_X4_162 gc_X4 hM.1.h0 hM.1.hk (c_m_reduced hM (by omega) (by omega)) (Nat.le_of_ble_eq_true rfl) (by decide) rfl ?_
              rw [hC i j (by omega) (by omega) (by omega) (by omega), hPU i (by omega) (by omega), hPV j (by omega) (by omega)]
              have hn1 := hnn i j (by omega) (by omega) (by omega) (by omega)
              have hb1 := hcb i j (by omega) (by omega) (by omega) (by omega)
              have hb2 := hub i (by omega)
              have hb3 := hvb j (by omega)
              refine g_if_lt (pc' := 79) (tgt := 83) hX dX4_isSound_76 (by decide) rfl (by omega) (fun h76 => absurd h76 (by omega)) (fun h76 => ?_)
              refine g_iconst (pc' := 80) hX dX4_isSound_79 rfl ?_
              refine g_goto (tgt := 84) hX dX4_isSound_80 (by decide) ?_
              refine g_iand (pc' := 85) (1) hX dX4_isSound_84 (and01' rfl rfl) rfl ?_
              refine g_istore_n_2 (pc' := 86) hX dX4_isSound_85 (by decide) rfl rfl ?_
              refine g_iinc_4 (pc' := 89) hX dX4_isSound_86 (by decide) rfl rfl ?_
              refine g_goto (tgt := 59) hX dX4_isSound_89 (by decide) ?_
              exact ih2 (j + 1) (by omega) (by omega) (by omega)
        exact loop2 8 0 (by omega) (by omega) (by omega)
  exact loop 8 0 (9, 0) (by omega) (by omega) (Or.inl rfl) (by omega)

end M12
