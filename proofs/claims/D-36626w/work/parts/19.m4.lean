/-! MODEL: seeing one assignment (by gen/spec_m4.py) -/
set_option maxRecDepth 100000
set_option maxHeartbeats 4000000
section M4
variable {E : Ev} {mo n m : Int} {w : Wd}
theorem c_m_see {σ fs : List Nat} {a b c d e s : Int} {wf : Int → Int} (hI : MI E mo n m w) (hP : PA w (mo + 7) σ) (h7 : σ.length ≤ 7) (hl : ∀ x ∈ σ, (x : Int) < σ.length) (hC : bC (cw w mo) σ.length) (hs : s = ps (cw w mo) 0 σ) (hS : LSx mo (a, b, c, d, e, fs) wf w) (hb : bLK (a, b, c, d, e, fs)) (hwb : ∀ k : Int, 0 ≤ k → k < 49 → 0 ≤ wf k ∧ wf k ≤ 1000000) :
    Call E mX4_see 0 0 0 [vR mo, vI (σ.length : Int), vI s] w (qU (fun w' => MI E mo n m w' ∧ Fr (zS mo) w w' ∧ LSx mo (stp (cw w mo) (a, b, c, d, e, fs) σ) (seeW σ s wf) w')) := by
  refine call_of (av := [(1, mo), (0, (σ.length : Int)), (0, s)]) (by decide +kernel) rfl (Nat.le_of_ble_eq_true rfl) ?_
  intro X hX hF hname
  show GG X 0 0 w 0 [(1, mo), (0, (σ.length : Int)), (0, s), (9, 0), (9, 0), (9, 0)] []
  have hW : Fr (zS mo) w w := Fr.rf
  have hb1 : 0 ≤ a ∧ a ≤ 1000000 := hb.1
  have hb2 : 0 ≤ b ∧ b ≤ 100000 := hb.2.1
  have hb3 : 0 ≤ c ∧ c ≤ 1000000 := hb.2.2.1
  have hb4 : -1 ≤ d ∧ d ≤ 1000000 := hb.2.2.2.1
  have hb5 : 0 ≤ e ∧ e ≤ 1000000 := hb.2.2.2.2
  have hsb := ps_bnd hC (σ := σ) (i := 0) (by omega) (by omega) hl
  rw [← hs] at hsb
  obtain ⟨de, hde⟩ : ∃ de, de = pd (cw w mo) 0 σ 0 := ⟨_, rfl⟩
  have hdb := pd_bnd hC (σ := σ) (i := 0) (a := 0) (by omega) (by omega) hl (by omega) (by omega)
  rw [← hde] at hdb
  have hfin : ∀ w2, LSx mo (if s < a then s else a, if s < a then 1 else b + (if s = a then 1 else 0), if s < a then a else if s < c then s else c, (if s < 1000 ∧ d < s then s else d), (if de < e then de else e), if s < a then σ else fs) (seeW σ s wf) w2 → LSx mo (stp (cw w mo) (a, b, c, d, e, fs) σ) (seeW σ s wf) w2 := by
    intro w2 h2
    unfold stp
    simp only []
    rw [← hs, ← hde]
    exact h2
  have c131 : ∀ (w2 : Wd), MI E mo n m w2 → Fr (zS mo) w w2 → LSx mo (a, b, c, (if s < 1000 ∧ d < s then s else d), (if de < e then de else e), fs) (seeW σ s wf) w2 → GG X 0 0 w2 131 [(1, mo), (0, (σ.length : Int)), (0, s), (0, de), (9, 0), (9, 0)] [] := by
    intro w2 hI hW hS
    refine g_iload_n (pc' := 132) hX dX4_see_131 rfl rfl ?_
    refine g_aload_n (pc' := 133) hX dX4_see_132 rfl rfl ?_
    refine gf_X4_80 (pc' := 136) hX dX4_see_133 hI.h0 hI.hk rfl ?_
    rw [hS.f13]
    refine g_icmp_ge (pc' := 139) (tgt := 189) hX dX4_see_136 (by decide) rfl (by omega) (by omega) (fun h136 => ?_) (fun h136 => ?_)
    · skip
      refine g_aload_n (pc' := 190) hX dX4_see_189 rfl rfl ?_
      refine g_iload_n (pc' := 191) hX dX4_see_190 rfl rfl ?_
      refine g_aload_n (pc' := 192) hX dX4_see_191 rfl rfl ?_
      refine gf_X4_86 (pc' := 195) hX dX4_see_192 hI.h0 hI.hk rfl ?_
      rw [hS.f15]
      refine g_icmp_ge (pc' := 198) (tgt := 202) hX dX4_see_195 (by decide) rfl (by omega) (by omega) (fun h195 => ?_) (fun h195 => ?_)
      · skip
        refine g_aload_n (pc' := 203) hX dX4_see_202 rfl rfl ?_
        refine gf_X4_86 (pc' := 206) hX dX4_see_203 hI.h0 hI.hk rfl ?_
        rw [hS.f15]
        refine pf_X4_86 (pc' := 209) hX dX4_see_206 hI.hb hI.hk rfl ?_
        refine hI.step hW (by omega) (by unfold zS; omega) (fun hI hW => ?_)
        have hS := hS.p15 (v := if s < c then s else c)
        first | rw [if_pos (show s < c by omega)] at hS | rw [if_neg (show ¬ s < c by omega)] at hS
        refine g_aload_n (pc' := 210) hX dX4_see_209 rfl rfl ?_
        refine g_dup (pc' := 211) hX dX4_see_210 (vR_cat _) rfl ?_
        refine gf_X4_83 (pc' := 214) hX dX4_see_211 hI.h0 hI.hk rfl ?_
        rw [hS.f14]
        refine g_iload_n (pc' := 215) hX dX4_see_214 rfl rfl ?_
        refine g_aload_n (pc' := 216) hX dX4_see_215 rfl rfl ?_
        refine gf_X4_80 (pc' := 219) hX dX4_see_216 hI.h0 hI.hk rfl ?_
        rw [hS.f13]
        refine g_icmp_ne (pc' := 222) (tgt := 226) hX dX4_see_219 (by decide) rfl (by omega) (by omega) (fun h219 => ?_) (fun h219 => ?_)
        · skip
          refine g_iconst (pc' := 227) hX dX4_see_226 rfl ?_
          refine g_iadd (pc' := 228) hX dX4_see_227 rfl ?_
          refine pf_X4_83 (pc' := 231) hX dX4_see_228 hI.hb hI.hk rfl ?_
          refine hI.step hW (by omega) (by unfold zS; omega) (fun hI hW => ?_)
          have hS := hS.p14 (v := b + if s = a then 1 else 0)
          first | rw [if_pos (show s = a by omega)] at hS | rw [if_neg (show ¬ s = a by omega)] at hS
          refine g_retU hX hF dX4_see_231 ⟨hI, hW, hfin _ ?_⟩
          first
            | (have hlt : s < a := by omega
               simp only [if_pos hlt]
               exact hS.fin (fun k k0 k1 => hA k k0 (by omega)))
            | (have hlt : ¬ s < a := by omega
               simp only [if_neg hlt]
               first | rw [if_pos (show s = a by omega)] | rw [if_neg (show ¬ s = a by omega)]
               first | rw [if_pos (show s < c by omega)] | rw [if_neg (show ¬ s < c by omega)]
               exact hS)
        · skip
          refine g_iconst (pc' := 223) hX dX4_see_222 rfl ?_
          refine g_goto (tgt := 227) hX dX4_see_223 (by decide) ?_
          refine g_iadd (pc' := 228) hX dX4_see_227 rfl ?_
          refine pf_X4_83 (pc' := 231) hX dX4_see_228 hI.hb hI.hk rfl ?_
          refine hI.step hW (by omega) (by unfold zS; omega) (fun hI hW => ?_)
          have hS := hS.p14 (v := b + if s = a then 1 else 0)
          first | rw [if_pos (show s = a by omega)] at hS | rw [if_neg (show ¬ s = a by omega)] at hS
          refine g_retU hX hF dX4_see_231 ⟨hI, hW, hfin _ ?_⟩
          first
            | (have hlt : s < a := by omega
               simp only [if_pos hlt]
               exact hS.fin (fun k k0 k1 => hA k k0 (by omega)))
            | (have hlt : ¬ s < a := by omega
               simp only [if_neg hlt]
               first | rw [if_pos (show s = a by omega)] | rw [if_neg (show ¬ s = a by omega)]
               first | rw [if_pos (show s < c by omega)] | rw [if_neg (show ¬ s < c by omega)]
               exact hS)
      · skip
        refine g_iload_n (pc' := 199) hX dX4_see_198 rfl rfl ?_
        refine g_goto (tgt := 206) hX dX4_see_199 (by decide) ?_
        refine pf_X4_86 (pc' := 209) hX dX4_see_206 hI.hb hI.hk rfl ?_
        refine hI.step hW (by omega) (by unfold zS; omega) (fun hI hW => ?_)
        have hS := hS.p15 (v := if s < c then s else c)
        first | rw [if_pos (show s < c by omega)] at hS | rw [if_neg (show ¬ s < c by omega)] at hS
        refine g_aload_n (pc' := 210) hX dX4_see_209 rfl rfl ?_
        refine g_dup (pc' := 211) hX dX4_see_210 (vR_cat _) rfl ?_
        refine gf_X4_83 (pc' := 214) hX dX4_see_211 hI.h0 hI.hk rfl ?_
        rw [hS.f14]
        refine g_iload_n (pc' := 215) hX dX4_see_214 rfl rfl ?_
        refine g_aload_n (pc' := 216) hX dX4_see_215 rfl rfl ?_
        refine gf_X4_80 (pc' := 219) hX dX4_see_216 hI.h0 hI.hk rfl ?_
        rw [hS.f13]
        refine g_icmp_ne (pc' := 222) (tgt := 226) hX dX4_see_219 (by decide) rfl (by omega) (by omega) (fun h219 => ?_) (fun h219 => ?_)
        · skip
          refine g_iconst (pc' := 227) hX dX4_see_226 rfl ?_
          refine g_iadd (pc' := 228) hX dX4_see_227 rfl ?_
          refine pf_X4_83 (pc' := 231) hX dX4_see_228 hI.hb hI.hk rfl ?_
          refine hI.step hW (by omega) (by unfold zS; omega) (fun hI hW => ?_)
          have hS := hS.p14 (v := b + if s = a then 1 else 0)
          first | rw [if_pos (show s = a by omega)] at hS | rw [if_neg (show ¬ s = a by omega)] at hS
          refine g_retU hX hF dX4_see_231 ⟨hI, hW, hfin _ ?_⟩
          first
            | (have hlt : s < a := by omega
               simp only [if_pos hlt]
               exact hS.fin (fun k k0 k1 => hA k k0 (by omega)))
            | (have hlt : ¬ s < a := by omega
               simp only [if_neg hlt]
               first | rw [if_pos (show s = a by omega)] | rw [if_neg (show ¬ s = a by omega)]
               first | rw [if_pos (show s < c by omega)] | rw [if_neg (show ¬ s < c by omega)]
               exact hS)
        · skip
          refine g_iconst (pc' := 223) hX dX4_see_222 rfl ?_
          refine g_goto (tgt := 227) hX dX4_see_223 (by decide) ?_
          refine g_iadd (pc' := 228) hX dX4_see_227 rfl ?_
          refine pf_X4_83 (pc' := 231) hX dX4_see_228 hI.hb hI.hk rfl ?_
          refine hI.step hW (by omega) (by unfold zS; omega) (fun hI hW => ?_)
          have hS := hS.p14 (v := b + if s = a then 1 else 0)
          first | rw [if_pos (show s = a by omega)] at hS | rw [if_neg (show ¬ s = a by omega)] at hS
          refine g_retU hX hF dX4_see_231 ⟨hI, hW, hfin _ ?_⟩
          first
            | (have hlt : s < a := by omega
               simp only [if_pos hlt]
               exact hS.fin (fun k k0 k1 => hA k k0 (by omega)))
            | (have hlt : ¬ s < a := by omega
               simp only [if_neg hlt]
               first | rw [if_pos (show s = a by omega)] | rw [if_neg (show ¬ s = a by omega)]
               first | rw [if_pos (show s < c by omega)] | rw [if_neg (show ¬ s < c by omega)]
               exact hS)
    · skip
      refine g_aload_n (pc' := 140) hX dX4_see_139 rfl rfl ?_
      refine g_aload_n (pc' := 141) hX dX4_see_140 rfl rfl ?_
      refine gf_X4_80 (pc' := 144) hX dX4_see_141 hI.h0 hI.hk rfl ?_
      rw [hS.f13]
      refine pf_X4_86 (pc' := 147) hX dX4_see_144 hI.hb hI.hk rfl ?_
      refine hI.step hW (by omega) (by unfold zS; omega) (fun hI hW => ?_)
      have hS := hS.p15 (v := a)
      refine g_aload_n (pc' := 148) hX dX4_see_147 rfl rfl ?_
      refine g_iload_n (pc' := 149) hX dX4_see_148 rfl rfl ?_
      refine pf_X4_80 (pc' := 152) hX dX4_see_149 hI.hb hI.hk rfl ?_
      refine hI.step hW (by omega) (by unfold zS; omega) (fun hI hW => ?_)
      have hS := hS.p13 (v := s)
      refine g_aload_n (pc' := 153) hX dX4_see_152 rfl rfl ?_
      refine g_iconst (pc' := 154) hX dX4_see_153 rfl ?_
      refine pf_X4_83 (pc' := 157) hX dX4_see_154 hI.hb hI.hk rfl ?_
      refine hI.step hW (by omega) (by unfold zS; omega) (fun hI hW => ?_)
      have hS := (hS.p14 (v := 1)).nil
      refine g_iconst (pc' := 158) hX dX4_see_157 rfl ?_
      refine g_istore_4 (pc' := 160) hX dX4_see_158 (by decide) rfl rfl ?_
      have loop3 : ∀ (f : Nat) (i : Int) (w3 : Wd), 0 ≤ i → i ≤ σ.length → MI E mo n m w3 → Fr (zS mo) w w3 → LSx mo (s, 1, a, (if s < 1000 ∧ d < s then s else d), (if de < e then de else e), []) (seeW σ s wf) w3 → (∀ k : Int, 0 ≤ k → k < i → rdw w3 (mo + 8) k = ((σ.getD k.toNat 0 : Nat) : Int)) → (σ.length : Int) < i + f → GG X 0 0 w3 160 [(1, mo), (0, (σ.length : Int)), (0, s), (0, de), (0, i), (9, 0)] [] := by
        intro f
        induction f with
        | zero => intro i w3 _ _ _ _ _ _ hf; exact absurd hf (by omega)
        | succ f ih =>
          intro i w3 h0 h1 hI hW hS hA hf
          refine g_iload (pc' := 162) hX dX4_see_160 rfl rfl ?_
          refine g_iload_n (pc' := 163) hX dX4_see_162 rfl rfl ?_
          refine g_icmp_ge (pc' := 166) (tgt := 186) hX dX4_see_163 (by decide) rfl (by omega) (by omega) (fun h163 => ?_) (fun h163 => ?_)
          · skip
            refine g_goto (tgt := 231) hX dX4_see_186 (by decide) ?_
            refine g_retU hX hF dX4_see_231 ⟨hI, hW, hfin _ ?_⟩
            first
              | (have hlt : s < a := by omega
                 simp only [if_pos hlt]
                 exact hS.fin (fun k k0 k1 => hA k k0 (by omega)))
              | (have hlt : ¬ s < a := by omega
                 simp only [if_neg hlt]
                 first | rw [if_pos (show s = a by omega)] | rw [if_neg (show ¬ s = a by omega)]
                 first | rw [if_pos (show s < c by omega)] | rw [if_neg (show ¬ s < c by omega)]
                 exact hS)
          · skip
            refine g_aload_n (pc' := 167) hX dX4_see_166 rfl rfl ?_
            refine gf_X4_45 (pc' := 170) hX dX4_see_167 hI.h0 hI.hk rfl ?_
            rw [hI.f 12 (by decide) (show moF 12 = 8 by decide)]
            refine g_iload (pc' := 172) hX dX4_see_170 rfl rfl ?_
            refine g_aload_n (pc' := 173) hX dX4_see_172 rfl rfl ?_
            refine gf_X4_42 (pc' := 176) hX dX4_see_173 hI.h0 hI.hk rfl ?_
            rw [hI.f 11 (by decide) (show moF 11 = 7 by decide)]
            refine g_iload (pc' := 178) hX dX4_see_176 rfl rfl ?_
            refine g_ialdL (pc' := 179) hX dX4_see_178 (by have := hI.h0; omega) (hI.k 7 (by decide) (show moK 7 = 50 by decide)) (hI.l 7 (by decide) (show moN 7 = 7 by decide)) (by omega) rfl ?_
            rw [(hP.fr hW (fun i => by unfold zS; omega)) i h0 (by omega)]
            refine g_iastL (pc' := 180) hX dX4_see_179 (by have := hI.hb; omega) (hI.k 8 (by decide) (show moK 8 = 50 by decide)) (hI.l 8 (by decide) (show moN 8 = 7 by decide)) (by omega) rfl ?_
            refine hI.step hW (by omega) (by unfold zS; omega) (fun hI hW => ?_)
            refine g_iinc_4 (pc' := 183) hX dX4_see_180 (by decide) rfl rfl ?_
            refine g_goto (tgt := 160) hX dX4_see_183 (by decide) ?_
            exact ih (i + 1) _ (by omega) (by omega) hI hW hS.p8 (fun k k0 k1 => by
              by_cases e : k = i
              · rw [rd_up_eq ⟨rfl, e⟩, e]
              · rw [rd_up_ne (fun z => e z.2)]; exact hA k k0 (by omega)) (by omega)
      exact loop3 (σ.length + 1) 0 _ (by omega) (by omega) hI hW hS (fun k k0 k1 => absurd k0 (by omega)) (by omega)
  have c104 : ∀ (w2 : Wd), MI E mo n m w2 → Fr (zS mo) w w2 → LSx mo (a, b, c, d, (if de < e then de else e), fs) (seeW σ s wf) w2 → GG X 0 0 w2 104 [(1, mo), (0, (σ.length : Int)), (0, s), (0, de), (9, 0), (9, 0)] [] := by
    intro w2 hI hW hS
    refine g_aload_n (pc' := 105) hX dX4_see_104 rfl rfl ?_
    refine g_iload_n (pc' := 106) hX dX4_see_105 rfl rfl ?_
    refine g_sipush (pc' := 109) hX dX4_see_106 rfl rfl ?_
    refine g_icmp_ge (pc' := 112) (tgt := 124) hX dX4_see_109 (by decide) rfl (by omega) (by omega) (fun h109 => ?_) (fun h109 => ?_)
    · skip
      refine g_aload_n (pc' := 125) hX dX4_see_124 rfl rfl ?_
      refine gf_X4_89 (pc' := 128) hX dX4_see_125 hI.h0 hI.hk rfl ?_
      rw [hS.f16]
      refine pf_X4_89 (pc' := 131) hX dX4_see_128 hI.hb hI.hk rfl ?_
      refine hI.step hW (by omega) (by unfold zS; omega) (fun hI hW => ?_)
      have hS := hS.p16 (v := (if s < 1000 ∧ d < s then s else d))
      first | rw [if_pos (show s < 1000 ∧ d < s by omega)] at hS | rw [if_neg (show ¬ (s < 1000 ∧ d < s) by omega)] at hS
      first | rw [if_pos (show s < 1000 ∧ d < s by omega)] at c131 | rw [if_neg (show ¬ (s < 1000 ∧ d < s) by omega)] at c131
      exact GG_lv (c131 _ hI hW hS) ⟨Or.inr rfl, Or.inr rfl, Or.inr rfl, Or.inr rfl, Or.inl rfl, Or.inl rfl, trivial⟩
    · skip
      refine g_iload_n (pc' := 113) hX dX4_see_112 rfl rfl ?_
      refine g_aload_n (pc' := 114) hX dX4_see_113 rfl rfl ?_
      refine gf_X4_89 (pc' := 117) hX dX4_see_114 hI.h0 hI.hk rfl ?_
      rw [hS.f16]
      refine g_icmp_le (pc' := 120) (tgt := 124) hX dX4_see_117 (by decide) rfl (by omega) (by omega) (fun h117 => ?_) (fun h117 => ?_)
      · skip
        refine g_aload_n (pc' := 125) hX dX4_see_124 rfl rfl ?_
        refine gf_X4_89 (pc' := 128) hX dX4_see_125 hI.h0 hI.hk rfl ?_
        rw [hS.f16]
        refine pf_X4_89 (pc' := 131) hX dX4_see_128 hI.hb hI.hk rfl ?_
        refine hI.step hW (by omega) (by unfold zS; omega) (fun hI hW => ?_)
        have hS := hS.p16 (v := (if s < 1000 ∧ d < s then s else d))
        first | rw [if_pos (show s < 1000 ∧ d < s by omega)] at hS | rw [if_neg (show ¬ (s < 1000 ∧ d < s) by omega)] at hS
        first | rw [if_pos (show s < 1000 ∧ d < s by omega)] at c131 | rw [if_neg (show ¬ (s < 1000 ∧ d < s) by omega)] at c131
        exact GG_lv (c131 _ hI hW hS) ⟨Or.inr rfl, Or.inr rfl, Or.inr rfl, Or.inr rfl, Or.inl rfl, Or.inl rfl, trivial⟩
      · skip
        refine g_iload_n (pc' := 121) hX dX4_see_120 rfl rfl ?_
        refine g_goto (tgt := 128) hX dX4_see_121 (by decide) ?_
        refine pf_X4_89 (pc' := 131) hX dX4_see_128 hI.hb hI.hk rfl ?_
        refine hI.step hW (by omega) (by unfold zS; omega) (fun hI hW => ?_)
        have hS := hS.p16 (v := (if s < 1000 ∧ d < s then s else d))
        first | rw [if_pos (show s < 1000 ∧ d < s by omega)] at hS | rw [if_neg (show ¬ (s < 1000 ∧ d < s) by omega)] at hS
        first | rw [if_pos (show s < 1000 ∧ d < s by omega)] at c131 | rw [if_neg (show ¬ (s < 1000 ∧ d < s) by omega)] at c131
        exact GG_lv (c131 _ hI hW hS) ⟨Or.inr rfl, Or.inr rfl, Or.inr rfl, Or.inr rfl, Or.inl rfl, Or.inl rfl, trivial⟩
  refine g_iconst (pc' := 1) hX dX4_see_0 rfl ?_
  refine g_istore_n_3 (pc' := 2) hX dX4_see_1 (by decide) rfl rfl ?_
  refine g_iconst (pc' := 3) hX dX4_see_2 rfl ?_
  refine g_istore_4 (pc' := 5) hX dX4_see_3 (by decide) rfl rfl ?_
  have loop : ∀ (f : Nat) (i dd : Int) (w1 : Wd), 0 ≤ i → i ≤ σ.length → dd = pd (cw w mo) 0 (σ.take i.toNat) 0 → MI E mo n m w1 → Fr (zS mo) w w1 → LSx mo (a, b, c, d, e, fs) (seeP σ s wf i) w1 → (0 ≤ dd ∧ dd ≤ 1000) → (σ.length : Int) < i + f → GG X 0 0 w1 5 [(1, mo), (0, (σ.length : Int)), (0, s), (0, dd), (0, i), (9, 0)] [] := by
    intro f
    induction f with
    | zero => intro i dd w1 h0 h1 hd hI hW hS hdd hf; exact absurd hf (by omega)
    | succ f ih =>
      intro i dd w1 h0 h1 hd hI hW hS hdd hf
      refine g_iload (pc' := 7) hX dX4_see_5 rfl rfl ?_
      refine g_iload_n (pc' := 8) hX dX4_see_7 rfl rfl ?_
      refine g_icmp_ge (pc' := 11) (tgt := 84) hX dX4_see_8 (by decide) rfl (by omega) (by omega) (fun h8 => ?_) (fun h8 => ?_)
      · skip
        have hie : i = (σ.length : Int) := by omega
        rw [hie, Int.toNat_natCast, List.take_of_length_le (Nat.le_refl _), ← hde] at hd
        rw [hd]
        subst hie
        have hS := hS.cg (fun k k0 k1 => seeP_end k0)
        refine g_aload_n (pc' := 85) hX dX4_see_84 rfl rfl ?_
        refine g_iload_n (pc' := 86) hX dX4_see_85 rfl rfl ?_
        refine g_aload_n (pc' := 87) hX dX4_see_86 rfl rfl ?_
        refine gf_X4_92 (pc' := 90) hX dX4_see_87 hI.h0 hI.hk rfl ?_
        rw [hS.f17]
        refine g_icmp_ge (pc' := 93) (tgt := 97) hX dX4_see_90 (by decide) rfl (by omega) (by omega) (fun h90 => ?_) (fun h90 => ?_)
        · skip
          refine g_aload_n (pc' := 98) hX dX4_see_97 rfl rfl ?_
          refine gf_X4_92 (pc' := 101) hX dX4_see_98 hI.h0 hI.hk rfl ?_
          rw [hS.f17]
          refine pf_X4_92 (pc' := 104) hX dX4_see_101 hI.hb hI.hk rfl ?_
          refine hI.step hW (by omega) (by unfold zS; omega) (fun hI hW => ?_)
          have hS := hS.p17 (v := (if de < e then de else e))
          first | rw [if_pos (show de < e by omega)] at hS | rw [if_neg (show ¬ de < e by omega)] at hS
          first | rw [if_pos (show de < e by omega)] at c104 | rw [if_neg (show ¬ de < e by omega)] at c104
          exact GG_lv (c104 _ hI hW hS) ⟨Or.inr rfl, Or.inr rfl, Or.inr rfl, Or.inr rfl, Or.inl rfl, Or.inl rfl, trivial⟩
        · skip
          refine g_iload_n (pc' := 94) hX dX4_see_93 rfl rfl ?_
          refine g_goto (tgt := 101) hX dX4_see_94 (by decide) ?_
          refine pf_X4_92 (pc' := 104) hX dX4_see_101 hI.hb hI.hk rfl ?_
          refine hI.step hW (by omega) (by unfold zS; omega) (fun hI hW => ?_)
          have hS := hS.p17 (v := (if de < e then de else e))
          first | rw [if_pos (show de < e by omega)] at hS | rw [if_neg (show ¬ de < e by omega)] at hS
          first | rw [if_pos (show de < e by omega)] at c104 | rw [if_neg (show ¬ de < e by omega)] at c104
          exact GG_lv (c104 _ hI hW hS) ⟨Or.inr rfl, Or.inr rfl, Or.inr rfl, Or.inr rfl, Or.inl rfl, Or.inl rfl, trivial⟩
      · skip
        have hP1 := hP.fr hW (fun i => by unfold zS; omega)
        have hlx := hl _ (getD_mem (show i.toNat < σ.length by omega))
        refine g_bipush (pc' := 13) hX dX4_see_11 rfl rfl ?_
        refine g_iload (pc' := 15) hX dX4_see_13 rfl rfl ?_
        refine g_imul (pc' := 16) hX dX4_see_15 rfl ?_
        refine g_aload_n (pc' := 17) hX dX4_see_16 rfl rfl ?_
        refine gf_X4_42 (pc' := 20) hX dX4_see_17 hI.h0 hI.hk rfl ?_
        rw [hI.f 11 (by decide) (show moF 11 = 7 by decide)]
        refine g_iload (pc' := 22) hX dX4_see_20 rfl rfl ?_
        refine g_ialdL (pc' := 23) hX dX4_see_22 (by have := hI.h0; omega) (hI.k 7 (by decide) (show moK 7 = 50 by decide)) (hI.l 7 (by decide) (show moN 7 = 7 by decide)) (by omega) rfl ?_
        rw [hP1 i h0 (by omega)]
        obtain ⟨x, hx⟩ : ∃ x : Int, x = ((σ.getD i.toNat 0 : Nat) : Int) := ⟨_, rfl⟩
        rw [← hx]
        rw [← hx] at hlx
        have hcx := hC i x h0 (by omega) (by omega) hlx
        have hwx := hwb (7 * i + x) (by omega) (by omega)
        have hsx : seeP σ s wf i (7 * i + x) = wf (7 * i + x) := if_neg (by omega)
        have hwt2 : ∀ k : Int, 0 ≤ k → k < 49 → rdw (upw w1 (mo + 6) (7 * i + x) (if s < wf (7 * i + x) then s else wf (7 * i + x))) (mo + 6) k = seeP σ s wf (i + 1) k := seeP_step h0 (by omega) hx (by omega) hS.2.2 rfl
        refine g_iadd (pc' := 24) hX dX4_see_23 rfl ?_
        refine g_istore_5 (pc' := 26) hX dX4_see_24 (by decide) rfl rfl ?_
        refine g_aload_n (pc' := 27) hX dX4_see_26 rfl rfl ?_
        refine gf_X4_39 (pc' := 30) hX dX4_see_27 hI.h0 hI.hk rfl ?_
        rw [hI.f 10 (by decide) (show moF 10 = 6 by decide)]
        refine g_iload (pc' := 32) hX dX4_see_30 rfl rfl ?_
        refine g_iload_n (pc' := 33) hX dX4_see_32 rfl rfl ?_
        refine g_aload_n (pc' := 34) hX dX4_see_33 rfl rfl ?_
        refine gf_X4_39 (pc' := 37) hX dX4_see_34 hI.h0 hI.hk rfl ?_
        rw [hI.f 10 (by decide) (show moF 10 = 6 by decide)]
        refine g_iload (pc' := 39) hX dX4_see_37 rfl rfl ?_
        refine g_ialdL (pc' := 40) hX dX4_see_39 (by have := hI.h0; omega) (hI.k 6 (by decide) (show moK 6 = 50 by decide)) (hI.l 6 (by decide) (show moN 6 = 49 by decide)) (by omega) rfl ?_
        rw [hS.2.2 _ (by omega) (by omega), hsx]
        refine g_icmp_ge (pc' := 43) (tgt := 47) hX dX4_see_40 (by decide) rfl (by omega) (by omega) (fun h40 => ?_) (fun h40 => ?_)
        · skip
          refine g_aload_n (pc' := 48) hX dX4_see_47 rfl rfl ?_
          refine gf_X4_39 (pc' := 51) hX dX4_see_48 hI.h0 hI.hk rfl ?_
          rw [hI.f 10 (by decide) (show moF 10 = 6 by decide)]
          refine g_iload (pc' := 53) hX dX4_see_51 rfl rfl ?_
          refine g_ialdL (pc' := 54) hX dX4_see_53 (by have := hI.h0; omega) (hI.k 6 (by decide) (show moK 6 = 50 by decide)) (hI.l 6 (by decide) (show moN 6 = 49 by decide)) (by omega) rfl ?_
          rw [hS.2.2 _ (by omega) (by omega), hsx]
          refine g_iastL (pc' := 55) hX dX4_see_54 (by have := hI.hb; omega) (hI.k 6 (by decide) (show moK 6 = 50 by decide)) (hI.l 6 (by decide) (show moN 6 = 49 by decide)) (by omega) rfl ?_
          first | rw [if_pos (show s < wf (7 * i + x) by omega)] at hwt2 | rw [if_neg (show ¬ s < wf (7 * i + x) by omega)] at hwt2
          refine hI.step hW (by omega) (by unfold zS; omega) (fun hI hW => ?_)
          have hS := hS.p6 hwt2
          refine g_aload_n (pc' := 56) hX dX4_see_55 rfl rfl ?_
          refine gf_X4_36 (pc' := 59) hX dX4_see_56 hI.h0 hI.hk rfl ?_
          rw [hI.f 9 (by decide) (show moF 9 = 5 by decide)]
          refine g_iload (pc' := 61) hX dX4_see_59 rfl rfl ?_
          refine g_ialdL (pc' := 62) hX dX4_see_61 (by have := hI.h0; omega) (hI.k 5 (by decide) (show moK 5 = 50 by decide)) (hI.l 5 (by decide) (show moN 5 = 49 by decide)) (by omega) rfl ?_
          rw [hW.rd _ _ (by unfold zS; omega)]
          unfold cw at hcx
          refine g_iload_n (pc' := 63) hX dX4_see_62 rfl rfl ?_
          refine g_icmp_le (pc' := 66) (tgt := 76) hX dX4_see_63 (by decide) rfl (by omega) (by omega) (fun h63 => ?_) (fun h63 => ?_)
          · skip
            refine g_iload_n (pc' := 77) hX dX4_see_76 rfl rfl ?_
            refine g_istore_n_3 (pc' := 78) hX dX4_see_77 (by decide) rfl rfl ?_
            refine g_iinc_4 (pc' := 81) hX dX4_see_78 (by decide) rfl rfl ?_
            refine g_goto (tgt := 5) hX dX4_see_81 (by decide) ?_
            exact GG_lv (ih (i + 1) _ _ (by omega) (by omega) (by rw [show (i + 1).toNat = i.toNat + 1 by omega, pd_take (by omega), ← hd, Int.zero_add, Int.toNat_of_nonneg h0, ← hx]; first | (rw [if_pos (show dd < cw w mo i x by unfold cw; omega)]; rfl) | rw [if_neg (show ¬ dd < cw w mo i x by unfold cw; omega)]) hI hW hS (by first | exact hdd | exact hcx) (by omega)) ⟨Or.inr rfl, Or.inr rfl, Or.inr rfl, Or.inr rfl, Or.inr rfl, Or.inl rfl, trivial⟩
          · skip
            refine g_aload_n (pc' := 67) hX dX4_see_66 rfl rfl ?_
            refine gf_X4_36 (pc' := 70) hX dX4_see_67 hI.h0 hI.hk rfl ?_
            rw [hI.f 9 (by decide) (show moF 9 = 5 by decide)]
            refine g_iload (pc' := 72) hX dX4_see_70 rfl rfl ?_
            refine g_ialdL (pc' := 73) hX dX4_see_72 (by have := hI.h0; omega) (hI.k 5 (by decide) (show moK 5 = 50 by decide)) (hI.l 5 (by decide) (show moN 5 = 49 by decide)) (by omega) rfl ?_
            rw [hW.rd _ _ (by unfold zS; omega)]
            refine g_goto (tgt := 77) hX dX4_see_73 (by decide) ?_
            refine g_istore_n_3 (pc' := 78) hX dX4_see_77 (by decide) rfl rfl ?_
            refine g_iinc_4 (pc' := 81) hX dX4_see_78 (by decide) rfl rfl ?_
            refine g_goto (tgt := 5) hX dX4_see_81 (by decide) ?_
            exact GG_lv (ih (i + 1) _ _ (by omega) (by omega) (by rw [show (i + 1).toNat = i.toNat + 1 by omega, pd_take (by omega), ← hd, Int.zero_add, Int.toNat_of_nonneg h0, ← hx]; first | (rw [if_pos (show dd < cw w mo i x by unfold cw; omega)]; rfl) | rw [if_neg (show ¬ dd < cw w mo i x by unfold cw; omega)]) hI hW hS (by first | exact hdd | exact hcx) (by omega)) ⟨Or.inr rfl, Or.inr rfl, Or.inr rfl, Or.inr rfl, Or.inr rfl, Or.inl rfl, trivial⟩
        · skip
          refine g_iload_n (pc' := 44) hX dX4_see_43 rfl rfl ?_
          refine g_goto (tgt := 54) hX dX4_see_44 (by decide) ?_
          refine g_iastL (pc' := 55) hX dX4_see_54 (by have := hI.hb; omega) (hI.k 6 (by decide) (show moK 6 = 50 by decide)) (hI.l 6 (by decide) (show moN 6 = 49 by decide)) (by omega) rfl ?_
          first | rw [if_pos (show s < wf (7 * i + x) by omega)] at hwt2 | rw [if_neg (show ¬ s < wf (7 * i + x) by omega)] at hwt2
          refine hI.step hW (by omega) (by unfold zS; omega) (fun hI hW => ?_)
          have hS := hS.p6 hwt2
          refine g_aload_n (pc' := 56) hX dX4_see_55 rfl rfl ?_
          refine gf_X4_36 (pc' := 59) hX dX4_see_56 hI.h0 hI.hk rfl ?_
          rw [hI.f 9 (by decide) (show moF 9 = 5 by decide)]
          refine g_iload (pc' := 61) hX dX4_see_59 rfl rfl ?_
          refine g_ialdL (pc' := 62) hX dX4_see_61 (by have := hI.h0; omega) (hI.k 5 (by decide) (show moK 5 = 50 by decide)) (hI.l 5 (by decide) (show moN 5 = 49 by decide)) (by omega) rfl ?_
          rw [hW.rd _ _ (by unfold zS; omega)]
          unfold cw at hcx
          refine g_iload_n (pc' := 63) hX dX4_see_62 rfl rfl ?_
          refine g_icmp_le (pc' := 66) (tgt := 76) hX dX4_see_63 (by decide) rfl (by omega) (by omega) (fun h63 => ?_) (fun h63 => ?_)
          · skip
            refine g_iload_n (pc' := 77) hX dX4_see_76 rfl rfl ?_
            refine g_istore_n_3 (pc' := 78) hX dX4_see_77 (by decide) rfl rfl ?_
            refine g_iinc_4 (pc' := 81) hX dX4_see_78 (by decide) rfl rfl ?_
            refine g_goto (tgt := 5) hX dX4_see_81 (by decide) ?_
            exact GG_lv (ih (i + 1) _ _ (by omega) (by omega) (by rw [show (i + 1).toNat = i.toNat + 1 by omega, pd_take (by omega), ← hd, Int.zero_add, Int.toNat_of_nonneg h0, ← hx]; first | (rw [if_pos (show dd < cw w mo i x by unfold cw; omega)]; rfl) | rw [if_neg (show ¬ dd < cw w mo i x by unfold cw; omega)]) hI hW hS (by first | exact hdd | exact hcx) (by omega)) ⟨Or.inr rfl, Or.inr rfl, Or.inr rfl, Or.inr rfl, Or.inr rfl, Or.inl rfl, trivial⟩
          · skip
            refine g_aload_n (pc' := 67) hX dX4_see_66 rfl rfl ?_
            refine gf_X4_36 (pc' := 70) hX dX4_see_67 hI.h0 hI.hk rfl ?_
            rw [hI.f 9 (by decide) (show moF 9 = 5 by decide)]
            refine g_iload (pc' := 72) hX dX4_see_70 rfl rfl ?_
            refine g_ialdL (pc' := 73) hX dX4_see_72 (by have := hI.h0; omega) (hI.k 5 (by decide) (show moK 5 = 50 by decide)) (hI.l 5 (by decide) (show moN 5 = 49 by decide)) (by omega) rfl ?_
            rw [hW.rd _ _ (by unfold zS; omega)]
            refine g_goto (tgt := 77) hX dX4_see_73 (by decide) ?_
            refine g_istore_n_3 (pc' := 78) hX dX4_see_77 (by decide) rfl rfl ?_
            refine g_iinc_4 (pc' := 81) hX dX4_see_78 (by decide) rfl rfl ?_
            refine g_goto (tgt := 5) hX dX4_see_81 (by decide) ?_
            exact GG_lv (ih (i + 1) _ _ (by omega) (by omega) (by rw [show (i + 1).toNat = i.toNat + 1 by omega, pd_take (by omega), ← hd, Int.zero_add, Int.toNat_of_nonneg h0, ← hx]; first | (rw [if_pos (show dd < cw w mo i x by unfold cw; omega)]; rfl) | rw [if_neg (show ¬ dd < cw w mo i x by unfold cw; omega)]) hI hW hS (by first | exact hdd | exact hcx) (by omega)) ⟨Or.inr rfl, Or.inr rfl, Or.inr rfl, Or.inr rfl, Or.inr rfl, Or.inl rfl, trivial⟩
  exact loop (σ.length + 1) 0 0 w (by omega) (by omega) rfl hI hW (hS.cg (fun k k0 k1 => by unfold seeP; rw [if_neg (by omega)])) (by omega) (by omega)

end M4
