/-! ANSWERS: soundness (by gen/spec_s13.py) -/
set_option maxRecDepth 100000
set_option maxHeartbeats 8000000
/-- digits of an assignment from its end -/
def cdK (F : List Nat) (n : Nat) : Nat → Int
  | 0 => 0
  | k + 1 => 10 * cdK F n k + (F.getD (n - (k + 1)) 0 : Nat)
theorem cdK_b {F : List Nat} {n : Nat} (hF : ∀ k : Nat, k < n → F.getD k 0 < 10) : ∀ k : Nat, k ≤ n → 0 ≤ cdK F n k ∧ cdK F n k < 10 ^ k
  | 0, _ => ⟨Int.le_refl _, by show (0 : Int) < 10 ^ 0; decide⟩
  | k + 1, h => by
    have h1 := cdK_b hF k (by omega)
    have h2 := hF (n - (k + 1)) (by omega)
    rw [Int.pow_succ]
    show 0 ≤ 10 * cdK F n k + _ ∧ 10 * cdK F n k + _ < _
    omega
theorem cdK_s {F : List Nat} {n k : Nat} (h : F.getD (n - (k + 1)) 0 < 10) : cdK F n (k + 1) % 10 = (F.getD (n - (k + 1)) 0 : Nat) ∧ cdK F n (k + 1) / 10 = cdK F n k := by
  show (10 * cdK F n k + _) % 10 = _ ∧ (10 * cdK F n k + _) / 10 = _
  omega
section S13S
variable {X : Cx} {bc bs pc : Nat} {lv : List (Nat × Int)} {st : List Value} {E : Ev} {w w0 u u' : Wd} {P : Int → Int → Prop} {T r c n m sn sm l i j k v a z xo b it x y sz fd far q row base L r0 : Int} {h h' sh C C0 R : Int → Int → Int} {f g : Int → Int} {e : En} {S : Int → Prop} {s N : Nat}
theorem PU_b (hnb : 1 ≤ n ∧ n ≤ 7) (hC : bC (tC m h) n) {i : Int} (hi : 0 ≤ i ∧ i < n) : -1000000 ≤ PU n m h i ∧ PU n m h i ≤ 1000000 + 7000 := by
  have hw := lwF_b (C := tC m h) (n := n.toNat) (by omega) (by rw [Int.toNat_of_nonneg (by omega)]; exact hC) (7 * i)
  have h0 := hC i 0 hi.1 hi.2 (by omega) (by omega)
  obtain ⟨⟨-, σ, hσ, e⟩, -⟩ := OB_mn (n := n) (m := m) (h := h) hnb hC
  have := (OB_b (n := n) (m := m) (h := h) hnb hC σ hσ).1
  unfold PU
  show -1000000 ≤ (LK n m h).1 - (lwF (tC m h) (pmN n.toNat) (7 * i) - tC m h i 0) ∧ (LK n m h).1 - (lwF (tC m h) (pmN n.toNat) (7 * i) - tC m h i 0) ≤ 1000000 + 7000
  omega
theorem PV_b (hnb : 1 ≤ n ∧ n ≤ 7) (hC : bC (tC m h) n) {j : Int} (j0 : 0 ≤ j) (j1 : j < n) : -2000000 ≤ PV n m h j :=
  (mnF_b (B := -2000000) (by omega) (fun i i0 i1 => by
    have h1 := PU_b (h := h) hnb hC (i := i) ⟨i0, by omega⟩
    have h2 := hC i j i0 (by omega) j0 j1
    show -2000000 ≤ tC m h i j - PU n m h i
    omega)).1
theorem c_o_isSound (hH : XX E xo b n m h sn sm sh e w) : Call E mX1_isSound 13 2834 21955 [vR xo] w (qI (fun r w' => r = 1 ∧ SX E xo b n m h sn sm sh e w w' ∧ PSD n m h)) := by
  refine call_of (av := [(1, xo)]) (by decide +kernel) rfl (Nat.le_of_ble_eq_true rfl) ?_
  intro X hX hF hname
  show GG X 2834 21955 w 0 [(1, xo), (9, 0), (9, 0), (9, 0), (9, 0), (9, 0), (9, 0), (9, 0)] []
  have hS := SB.rf hH
  have hV := hH.1
  have hn := hH.2.2.1.1.2.1
  have hnb : 1 ≤ n ∧ n ≤ 7 := by omega
  have hC := hH.2.2.1.bCn
  have hS := hS.sx hH.1
  have hkb := hH.2.2.1.kb
  have hnar := OB_nar hnb hC hH.2.2.1.v9
  have hbest := OB_best (n := n) (m := m) (h := h) hnb hC
  refine g_aload_n (pc' := 1) hX dX1_isSound_0 rfl rfl ?_
  refine gV0I (pc' := 4) hX dX1_isSound_1 ml_X1_292 gc_X1 hV.h0 hV.hk (c_s_findFirst hS.1) (Nat.le_of_ble_eq_true rfl) (by decide) ⟨by omega, by omega⟩ rfl (fun r1 w1 q1 => ?_)
  obtain ⟨hr1, hS1, h61, hA1, hF1⟩ := q1
  have hS := hS.tr (hS1.sx hS.1.1)
  have hV := hS.1.1
  have hmF := (OB_mn hnb hC).2
  obtain ⟨F, hFe⟩ : ∃ F, F = (LK n m h).2.2.2.2.2 := ⟨_, rfl⟩
  rw [← hFe] at hmF hF1
  have hFb : ∀ k : Nat, (k : Int) < n → 0 ≤ ((F.getD k 0 : Nat) : Int) ∧ ((F.getD k 0 : Nat) : Int) < n := fun k hk => by
    have e := pmN_mem.mp hmF
    have := e.2.2 (F.getD k 0) (by rw [List.getD_eq_getElem?_getD, List.getElem?_eq_getElem (by omega)]; exact List.getElem_mem _)
    omega
  have hcb := cdK_b (F := F) (n := n.toNat) (fun k hk => by have := hFb k (by omega); omega)
  refine g_istore_n_1 (pc' := 5) hX dX1_isSound_4 (by decide) rfl rfl ?_
  refine g_iconst (pc' := 6) hX dX1_isSound_5 rfl ?_
  refine g_istore_n_2 (pc' := 7) hX dX1_isSound_6 (by decide) rfl rfl ?_
  refine g_aload_n (pc' := 8) hX dX1_isSound_7 rfl rfl ?_
  refine gf_X1_7 (pc' := 11) hX dX1_isSound_8 hV.h0 hV.hk rfl ?_
  rw [hS.1.2.2.1.1.1.1]
  refine g_iconst (pc' := 12) hX dX1_isSound_11 rfl ?_
  refine g_isub (pc' := 13) hX dX1_isSound_12 rfl ?_
  refine g_istore_n_3 (pc' := 14) hX dX1_isSound_13 (by decide) rfl rfl ?_
  have loop : ∀ (f : Nat) (i : Int), -1 ≤ i → i < n → i + 1 < f → GG X 2148 17300 w1 14 [(1, xo), (0, r1), (0, cdK F n.toNat (n - 1 - i).toNat), (0, i), (9, 0), (9, 0), (9, 0), (9, 0)] [] := by
    intro f
    induction f with
    | zero => intro i i0 i1 hf; exact absurd hf (by omega)
    | succ f ih =>
      intro i i0 i1 hf
      refine g_iload_n (pc' := 15) hX dX1_isSound_14 rfl rfl ?_
      refine g_if_lt (pc' := 18) (tgt := 36) hX dX1_isSound_15 (by decide) rfl (by omega) (fun h15 => ?_) (fun h15 => ?_)
      · skip
        rw [show n - 1 - i = n by omega]
        refine g_aload_n (pc' := 37) hX dX1_isSound_36 rfl rfl ?_
        refine gV0I (pc' := 40) hX dX1_isSound_37 ml_X1_295 gc_X1 hV.h0 hV.hk (c_s_findPotentials hS.1) (Nat.le_of_ble_eq_true rfl) (by decide) ⟨by omega, by omega⟩ rfl (fun r37 w37 q37 => ?_)
        obtain ⟨-, hS9, hA9, h19, h20, hPS⟩ := q37
        have hS := hS.tr (hS9.sx hS.1.1)
        have hV := hS.1.1
        obtain ⟨hz, hnn, hsum⟩ := id hPS
        rw [← hFe] at hz
        refine g_pop (pc' := 41) hX dX1_isSound_40 (vI_cat _) rfl ?_
        refine g_iconst (pc' := 42) hX dX1_isSound_41 rfl ?_
        refine g_istore_n_3 (pc' := 43) hX dX1_isSound_42 (by decide) rfl rfl ?_
        refine g_iconst (pc' := 44) hX dX1_isSound_43 rfl ?_
        refine g_istore_4 (pc' := 46) hX dX1_isSound_44 (by decide) rfl rfl ?_
        refine g_iconst (pc' := 47) hX dX1_isSound_46 rfl ?_
        refine g_istore_5 (pc' := 49) hX dX1_isSound_47 (by decide) rfl rfl ?_
        have loop : ∀ (f : Nat) (i : Int) (x6 x7 : Nat × Int), 0 ≤ i → i ≤ n → n < i + f → (x6 = (9, 0) ∨ x6.1 = 0) → GG X 1376 9334 w37 49 [(1, xo), (0, r1), (0, cdK F n.toNat (n - i).toNat), (0, sm' i.toNat (fun k => PU n m h k + PV n m h k)), (0, 1), (0, i), x6, x7] [] := by
          intro f
          induction f with
          | zero => intro i x6 x7 i0 i1 hf hx6; exact absurd hf (by omega)
          | succ f ih =>
            intro i x6 x7 i0 i1 hf hx6
            refine g_iload (pc' := 51) hX dX1_isSound_49 rfl rfl ?_
            refine g_aload_n (pc' := 52) hX dX1_isSound_51 rfl rfl ?_
            refine gf_X1_7 (pc' := 55) hX dX1_isSound_52 hV.h0 hV.hk rfl ?_
            rw [hS.1.2.2.1.1.1.1]
            refine g_icmp_ge (pc' := 58) (tgt := 164) hX dX1_isSound_55 (by decide) rfl (by omega) (by omega) (fun h55 => ?_) (fun h55 => ?_)
            · skip
              rw [show i.toNat = n.toNat by omega]
              rw [hsum]
              refine g_aload_n (pc' := 165) hX dX1_isSound_164 rfl rfl ?_
              refine g_iconst (pc' := 166) hX dX1_isSound_165 rfl ?_
              refine g_iconst (pc' := 167) hX dX1_isSound_166 rfl ?_
              refine gV2IX (pc' := 170) hX dX1_isSound_167 ml_X1_355 gc_X1 hV.h0 hV.hk (c_o_minimumWith hS.1 (r := 0) (c := 0) (by omega) (by omega)) (Nat.le_of_ble_eq_true rfl) (by decide) ⟨by omega, by omega⟩ rfl (fun r167 w167 q167 => ?_) (fun k2 w2 hk0 hq => by have := hq.1; rw [if_pos (by omega)] at this; omega)
              obtain ⟨-, hr167, hS167⟩ := q167
              have hS := hS.tr hS167
              have hV := hS.1.1
              rw [show (7 : Int) * 0 + 0 = 0 by omega] at hr167
              have hw0 := (lwF_b (C := tC m h) (n := n.toNat) (by omega) (by rw [Int.toNat_of_nonneg (by omega)]; exact hC) 0)
              have hw0 : 0 ≤ LW n m h 0 ∧ LW n m h 0 ≤ 1000000 := hw0
              have hwo := woF_b (f := fun k => LW n m h (7 * 0 + k)) (c := 0) (k := n.toNat) (fun k _ _ => (lwF_b (n := n.toNat) (by omega) (by rw [Int.toNat_of_nonneg (by omega)]; exact hC) _).1)
              refine g_istore_5 (pc' := 172) hX dX1_isSound_170 (by decide) rfl rfl ?_
              refine g_aload_n (pc' := 173) hX dX1_isSound_172 rfl rfl ?_
              refine g_iconst (pc' := 174) hX dX1_isSound_173 rfl ?_
              refine g_iconst (pc' := 175) hX dX1_isSound_174 rfl ?_
              refine gV2IX (pc' := 178) hX dX1_isSound_175 ml_X1_298 gc_X1 hV.h0 hV.hk (c_o_minimumWithout hS.1 (r := 0) (c := 0) (by omega) (by omega)) (Nat.le_of_ble_eq_true rfl) (by decide) ⟨by omega, by omega⟩ rfl (fun r175 w175 q175 => ?_) (fun k2 w2 hk0 hq => by have := hq.1; rw [if_pos (by omega)] at this; omega)
              obtain ⟨-, hr175, hS175⟩ := q175
              have hS := hS.tr hS175
              have hV := hS.1.1
              refine g_istore_6 (pc' := 180) hX dX1_isSound_178 (by decide) rfl rfl ?_
              refine g_aload_n (pc' := 181) hX dX1_isSound_180 rfl rfl ?_
              refine gV0I0 (pc' := 184) hX dX1_isSound_181 ml_X1_358 gc_X1 hV.h0 hV.hk (c_o_bottleneck hS.1) (Nat.le_of_ble_eq_true rfl) (by decide) rfl (fun r181 w181 q181 => ?_)
              obtain ⟨hr181, hS181⟩ := q181
              have hS := hS.tr hS181
              have hV := hS.1.1
              refine g_istore_7 (pc' := 186) hX dX1_isSound_184 (by decide) rfl rfl ?_
              refine g_iload (pc' := 188) hX dX1_isSound_186 rfl rfl ?_
              refine g_if_eq (pc' := 191) (tgt := 224) hX dX1_isSound_188 (by decide) rfl (by omega) (fun h188 => absurd h188 (by omega)) (fun h188 => ?_)
              refine g_iload_n (pc' := 192) hX dX1_isSound_191 rfl rfl ?_
              refine g_iload_n (pc' := 193) hX dX1_isSound_192 rfl rfl ?_
              refine g_icmp_ne (pc' := 196) (tgt := 224) hX dX1_isSound_193 (by decide) rfl (by omega) (by omega) (fun h193 => absurd h193 (by omega)) (fun h193 => ?_)
              refine g_iload_n (pc' := 197) hX dX1_isSound_196 rfl rfl ?_
              refine g_aload_n (pc' := 198) hX dX1_isSound_197 rfl rfl ?_
              refine gf_X1_7 (pc' := 201) hX dX1_isSound_198 hV.h0 hV.hk rfl ?_
              rw [hS.1.2.2.1.1.1.1]
              refine g_iconst (pc' := 202) hX dX1_isSound_201 rfl ?_
              refine g_icmp_ne (pc' := 205) (tgt := 210) hX dX1_isSound_202 (by decide) rfl (by omega) (by omega) (fun h202 => ?_) (fun h202 => ?_)
              · skip
                rw [if_neg (by omega)] at hr175
                refine g_iload (pc' := 212) hX dX1_isSound_210 rfl rfl ?_
                refine g_iload (pc' := 214) hX dX1_isSound_212 rfl rfl ?_
                refine g_mmin (pc' := 217) hX dX1_isSound_214 q566 q211 q64 q212 (by omega) (by omega) (by omega) (Nat.le_of_ble_eq_true rfl) rfl ?_
                refine g_icmp_ne (pc' := 220) (tgt := 224) hX dX1_isSound_217 (by decide) rfl (by omega) (by first | omega | (split <;> omega)) (fun h217 => absurd h217 (by intro hne; apply hne; (repeat' split at hbest) <;> (repeat' split) <;> omega)) (fun h217 => ?_)
                refine g_iconst (pc' := 221) hX dX1_isSound_220 rfl ?_
                refine g_goto (tgt := 225) hX dX1_isSound_221 (by decide) ?_
                refine g_istore_4 (pc' := 227) hX dX1_isSound_225 (by decide) rfl rfl ?_
                refine g_iload (pc' := 229) hX dX1_isSound_227 rfl rfl ?_
                refine g_if_eq (pc' := 232) (tgt := 261) hX dX1_isSound_229 (by decide) rfl (by omega) (fun h229 => absurd h229 (by omega)) (fun h229 => ?_)
                refine g_aload_n (pc' := 233) hX dX1_isSound_232 rfl rfl ?_
                refine g_iload (pc' := 235) hX dX1_isSound_233 rfl rfl ?_
                refine gV1I0 (pc' := 238) hX dX1_isSound_235 ml_X1_305 gc_X1 hV.h0 hV.hk (c_s_isEnough hS.1 (by omega)) (Nat.le_of_ble_eq_true rfl) (by decide) rfl (fun r235 w235 q235 => ?_)
                obtain ⟨hr235, hS235⟩ := q235
                have hS := hS.tr (hS235.sx hS.1.1)
                have hV := hS.1.1
                rw [if_pos (by omega)] at hr235
                refine g_if_eq (pc' := 241) (tgt := 261) hX dX1_isSound_238 (by decide) rfl (by omega) (fun h238 => absurd h238 (by omega)) (fun h238 => ?_)
                refine g_iload (pc' := 243) hX dX1_isSound_241 rfl rfl ?_
                refine g_if_eq (pc' := 246) (tgt := 257) hX dX1_isSound_243 (by decide) rfl (by omega) (fun h243 => ?_) (fun h243 => ?_)
                · skip
                  refine g_iconst (pc' := 258) hX dX1_isSound_257 rfl ?_
                  refine g_goto (tgt := 262) hX dX1_isSound_258 (by decide) ?_
                  exact g_retZ hX hF dX1_isSound_262 (Or.inr rfl) ⟨rfl, hS, hPS⟩
                · skip
                  refine g_aload_n (pc' := 247) hX dX1_isSound_246 rfl rfl ?_
                  refine g_iload (pc' := 249) hX dX1_isSound_247 rfl rfl ?_
                  refine g_iconst (pc' := 250) hX dX1_isSound_249 rfl ?_
                  refine g_isub (pc' := 251) hX dX1_isSound_250 rfl ?_
                  refine gV1I0 (pc' := 254) hX dX1_isSound_251 ml_X1_305 gc_X1 hV.h0 hV.hk (c_s_isEnough hS.1 (by omega)) (Nat.le_of_ble_eq_true rfl) (by decide) rfl (fun r251 w251 q251 => ?_)
                  obtain ⟨hr251, hS251⟩ := q251
                  have hS := hS.tr (hS251.sx hS.1.1)
                  have hV := hS.1.1
                  rw [if_neg (by omega)] at hr251
                  refine g_if_ne (pc' := 257) (tgt := 261) hX dX1_isSound_254 (by decide) rfl (by omega) (fun h254 => absurd h254 (by omega)) (fun h254 => ?_)
                  refine g_iconst (pc' := 258) hX dX1_isSound_257 rfl ?_
                  refine g_goto (tgt := 262) hX dX1_isSound_258 (by decide) ?_
                  exact g_retZ hX hF dX1_isSound_262 (Or.inr rfl) ⟨rfl, hS, hPS⟩
              · skip
                have hn1 : n = 1 := by omega
                have hwo1 : woF (fun k => LW n m h (7 * 0 + k)) 0 n.toNat = 1000000 := by rw [hn1]; rfl
                refine g_iload (pc' := 207) hX dX1_isSound_205 rfl rfl ?_
                refine g_goto (tgt := 217) hX dX1_isSound_207 (by decide) ?_
                refine g_icmp_ne (pc' := 220) (tgt := 224) hX dX1_isSound_217 (by decide) rfl (by omega) (by first | omega | (split <;> omega)) (fun h217 => absurd h217 (by intro hne; apply hne; (repeat' split at hbest) <;> (repeat' split) <;> omega)) (fun h217 => ?_)
                refine g_iconst (pc' := 221) hX dX1_isSound_220 rfl ?_
                refine g_goto (tgt := 225) hX dX1_isSound_221 (by decide) ?_
                refine g_istore_4 (pc' := 227) hX dX1_isSound_225 (by decide) rfl rfl ?_
                refine g_iload (pc' := 229) hX dX1_isSound_227 rfl rfl ?_
                refine g_if_eq (pc' := 232) (tgt := 261) hX dX1_isSound_229 (by decide) rfl (by omega) (fun h229 => absurd h229 (by omega)) (fun h229 => ?_)
                refine g_aload_n (pc' := 233) hX dX1_isSound_232 rfl rfl ?_
                refine g_iload (pc' := 235) hX dX1_isSound_233 rfl rfl ?_
                refine gV1I0 (pc' := 238) hX dX1_isSound_235 ml_X1_305 gc_X1 hV.h0 hV.hk (c_s_isEnough hS.1 (by omega)) (Nat.le_of_ble_eq_true rfl) (by decide) rfl (fun r235 w235 q235 => ?_)
                obtain ⟨hr235, hS235⟩ := q235
                have hS := hS.tr (hS235.sx hS.1.1)
                have hV := hS.1.1
                rw [if_pos (by omega)] at hr235
                refine g_if_eq (pc' := 241) (tgt := 261) hX dX1_isSound_238 (by decide) rfl (by omega) (fun h238 => absurd h238 (by omega)) (fun h238 => ?_)
                refine g_iload (pc' := 243) hX dX1_isSound_241 rfl rfl ?_
                refine g_if_eq (pc' := 246) (tgt := 257) hX dX1_isSound_243 (by decide) rfl (by omega) (fun h243 => ?_) (fun h243 => ?_)
                · skip
                  refine g_iconst (pc' := 258) hX dX1_isSound_257 rfl ?_
                  refine g_goto (tgt := 262) hX dX1_isSound_258 (by decide) ?_
                  exact g_retZ hX hF dX1_isSound_262 (Or.inr rfl) ⟨rfl, hS, hPS⟩
                · skip
                  refine g_aload_n (pc' := 247) hX dX1_isSound_246 rfl rfl ?_
                  refine g_iload (pc' := 249) hX dX1_isSound_247 rfl rfl ?_
                  refine g_iconst (pc' := 250) hX dX1_isSound_249 rfl ?_
                  refine g_isub (pc' := 251) hX dX1_isSound_250 rfl ?_
                  refine gV1I0 (pc' := 254) hX dX1_isSound_251 ml_X1_305 gc_X1 hV.h0 hV.hk (c_s_isEnough hS.1 (by omega)) (Nat.le_of_ble_eq_true rfl) (by decide) rfl (fun r251 w251 q251 => ?_)
                  obtain ⟨hr251, hS251⟩ := q251
                  have hS := hS.tr (hS251.sx hS.1.1)
                  have hV := hS.1.1
                  rw [if_neg (by omega)] at hr251
                  refine g_if_ne (pc' := 257) (tgt := 261) hX dX1_isSound_254 (by decide) rfl (by omega) (fun h254 => absurd h254 (by omega)) (fun h254 => ?_)
                  refine g_iconst (pc' := 258) hX dX1_isSound_257 rfl ?_
                  refine g_goto (tgt := 262) hX dX1_isSound_258 (by decide) ?_
                  exact g_retZ hX hF dX1_isSound_262 (Or.inr rfl) ⟨rfl, hS, hPS⟩
            · skip
              have hcs := cdK_s (F := F) (n := n.toNat) (k := (n - i).toNat - 1) (by have := hFb (n.toNat - ((n - i).toNat - 1 + 1)) (by omega); omega)
              rw [show (n - i).toNat - 1 + 1 = (n - i).toNat by omega, show n.toNat - (n - i).toNat = i.toNat by omega] at hcs
              have hcz := hcb (n - i).toNat (by omega)
              have hp10 := p10 (n - i).toNat (by omega)
              have hFi := hFb i.toNat (by omega)
              have hzi := hz i i0 (by omega)
              refine g_iload_n (pc' := 59) hX dX1_isSound_58 rfl rfl ?_
              refine g_aload_n (pc' := 60) hX dX1_isSound_59 rfl rfl ?_
              refine gf_X1_76 (pc' := 63) hX dX1_isSound_60 hV.h0 hV.hk rfl ?_
              rw [hV.f 18 (by decide) (show xF 18 = 19 from rfl)]
              refine g_iload (pc' := 65) hX dX1_isSound_63 rfl rfl ?_
              refine g_ialdL (pc' := 66) hX dX1_isSound_65 (by have := hV.b0; omega) (hV.kk 19 (by decide) (show xK b 19 = 50 from rfl)) (hV.ln 19 (by decide) (show xL 19 = 7 from rfl)) (by omega) rfl ?_
              rw [h19 i i0 (by omega)]
              refine g_aload_n (pc' := 67) hX dX1_isSound_66 rfl rfl ?_
              refine gf_X1_79 (pc' := 70) hX dX1_isSound_67 hV.h0 hV.hk rfl ?_
              rw [hV.f 19 (by decide) (show xF 19 = 20 from rfl)]
              refine g_iload (pc' := 72) hX dX1_isSound_70 rfl rfl ?_
              refine g_ialdL (pc' := 73) hX dX1_isSound_72 (by have := hV.b0; omega) (hV.kk 20 (by decide) (show xK b 20 = 50 from rfl)) (hV.ln 20 (by decide) (show xL 20 = 7 from rfl)) (by omega) rfl ?_
              rw [h20 i i0 (by omega)]
              refine g_iadd (pc' := 74) hX dX1_isSound_73 rfl ?_
              refine g_iadd (pc' := 75) hX dX1_isSound_74 rfl ?_
              refine g_istore_n_3 (pc' := 76) hX dX1_isSound_75 (by decide) rfl rfl ?_
              refine g_iconst (pc' := 77) hX dX1_isSound_76 rfl ?_
              refine g_istore_6 (pc' := 79) hX dX1_isSound_77 (by decide) rfl rfl ?_
              have loop2 : ∀ (f : Nat) (j : Int) (x7 : Nat × Int), 0 ≤ j → j ≤ n → n < j + f → GG X 1376 9334 w37 79 [(1, xo), (0, r1), (0, cdK F n.toNat (n - i).toNat), (0, sm' i.toNat (fun k => PU n m h k + PV n m h k) + (PU n m h i + PV n m h i)), (0, 1), (0, i), (0, j), x7] [] := by
                intro f
                induction f with
                | zero => intro j x7 j0 j1 hf; exact absurd hf (by omega)
                | succ f ih2 =>
                  intro j x7 j0 j1 hf
                  refine g_iload (pc' := 81) hX dX1_isSound_79 rfl rfl ?_
                  refine g_aload_n (pc' := 82) hX dX1_isSound_81 rfl rfl ?_
                  refine gf_X1_7 (pc' := 85) hX dX1_isSound_82 hV.h0 hV.hk rfl ?_
                  rw [hS.1.2.2.1.1.1.1]
                  refine g_icmp_ge (pc' := 88) (tgt := 153) hX dX1_isSound_85 (by decide) rfl (by omega) (by omega) (fun h85 => ?_) (fun h85 => ?_)
                  · skip
                    refine g_iload_n (pc' := 154) hX dX1_isSound_153 rfl rfl ?_
                    refine g_bipush (pc' := 156) hX dX1_isSound_154 rfl rfl ?_
                    refine g_idivP (pc' := 157) hX dX1_isSound_156 (by omega) (by omega) rfl ?_
                    refine g_istore_n_2 (pc' := 158) hX dX1_isSound_157 (by decide) rfl rfl ?_
                    refine g_iinc_5 (pc' := 161) hX dX1_isSound_158 (by decide) rfl rfl ?_
                    refine g_goto (tgt := 49) hX dX1_isSound_161 (by decide) ?_
                    have ex := ih (i + 1) (0, j) x7 (by omega) (by omega) (by omega) (Or.inr rfl)
                    rw [sm_i i0] at ex
                    rw [hcs.2, show (n - i).toNat - 1 = (n - (i + 1)).toNat by omega]
                    exact ex
                  · skip
                    refine g_aload_n (pc' := 89) hX dX1_isSound_88 rfl rfl ?_
                    refine gf_X1_35 (pc' := 92) hX dX1_isSound_89 hV.h0 hV.hk rfl ?_
                    rw [hV.f 7 (by decide) (show xF 7 = 0 from rfl)]
                    refine g_iload (pc' := 94) hX dX1_isSound_92 rfl rfl ?_
                    refine g_aaldL (pc' := 95) hX dX1_isSound_94 (by have := hV.b0; omega) (by rw [hV.kk 0 (by decide) (show xK b 0 = 54 from rfl)]; decide) (hV.ln 0 (by decide) (show xL 0 = 7 from rfl)) (by omega) rfl ?_
                    rw [hV.c0 (by omega)]
                    refine g_iload (pc' := 97) hX dX1_isSound_95 rfl rfl ?_
                    refine g_ialdL (pc' := 98) hX dX1_isSound_97 (by have := hV.b0; omega) (hV.ck (by omega)) (hV.cl (by omega)) (by omega) rfl ?_
                    rw [hA9 i j i0 (by omega) j0 (by omega)]
                    have hni := hnn i j i0 (by omega) j0 (by omega)
                    have hCij := hC i j i0 (by omega) j0 (by omega)
                    have hPUi := PU_b (h := h) (m := m) hnb hC (i := i) ⟨i0, by omega⟩
                    have hPVj : -2000000 ≤ PV n m h j := PV_b hnb hC j0 (by omega)
                    refine g_aload_n (pc' := 99) hX dX1_isSound_98 rfl rfl ?_
                    refine gf_X1_76 (pc' := 102) hX dX1_isSound_99 hV.h0 hV.hk rfl ?_
                    rw [hV.f 18 (by decide) (show xF 18 = 19 from rfl)]
                    refine g_iload (pc' := 104) hX dX1_isSound_102 rfl rfl ?_
                    refine g_ialdL (pc' := 105) hX dX1_isSound_104 (by have := hV.b0; omega) (hV.kk 19 (by decide) (show xK b 19 = 50 from rfl)) (hV.ln 19 (by decide) (show xL 19 = 7 from rfl)) (by omega) rfl ?_
                    rw [h19 i i0 (by omega)]
                    refine g_isub (pc' := 106) hX dX1_isSound_105 rfl ?_
                    refine g_aload_n (pc' := 107) hX dX1_isSound_106 rfl rfl ?_
                    refine gf_X1_79 (pc' := 110) hX dX1_isSound_107 hV.h0 hV.hk rfl ?_
                    rw [hV.f 19 (by decide) (show xF 19 = 20 from rfl)]
                    refine g_iload (pc' := 112) hX dX1_isSound_110 rfl rfl ?_
                    refine g_ialdL (pc' := 113) hX dX1_isSound_112 (by have := hV.b0; omega) (hV.kk 20 (by decide) (show xK b 20 = 50 from rfl)) (hV.ln 20 (by decide) (show xL 20 = 7 from rfl)) (by omega) rfl ?_
                    rw [h20 j j0 (by omega)]
                    refine g_isub (pc' := 114) hX dX1_isSound_113 rfl ?_
                    refine g_istore_7 (pc' := 116) hX dX1_isSound_114 (by decide) rfl rfl ?_
                    refine g_iload (pc' := 118) hX dX1_isSound_116 rfl rfl ?_
                    refine g_if_eq (pc' := 121) (tgt := 144) hX dX1_isSound_118 (by decide) rfl (by omega) (fun h118 => absurd h118 (by omega)) (fun h118 => ?_)
                    refine g_iload (pc' := 123) hX dX1_isSound_121 rfl rfl ?_
                    refine g_if_lt (pc' := 126) (tgt := 144) hX dX1_isSound_123 (by decide) rfl (by omega) (fun h123 => absurd h123 (by omega)) (fun h123 => ?_)
                    refine g_iload (pc' := 128) hX dX1_isSound_126 rfl rfl ?_
                    refine g_iload_n (pc' := 129) hX dX1_isSound_128 rfl rfl ?_
                    refine g_bipush (pc' := 131) hX dX1_isSound_129 rfl rfl ?_
                    refine g_iremP (pc' := 132) hX dX1_isSound_131 (by omega) (by omega) rfl ?_
                    rw [hcs.1]
                    refine g_icmp_ne (pc' := 135) (tgt := 140) hX dX1_isSound_132 (by decide) rfl (by omega) (by omega) (fun h132 => ?_) (fun h132 => ?_)
                    · skip
                      refine g_iconst (pc' := 141) hX dX1_isSound_140 rfl ?_
                      refine g_goto (tgt := 145) hX dX1_isSound_141 (by decide) ?_
                      refine g_istore_4 (pc' := 147) hX dX1_isSound_145 (by decide) rfl rfl ?_
                      refine g_iinc_6 (pc' := 150) hX dX1_isSound_147 (by decide) rfl rfl ?_
                      refine g_goto (tgt := 79) hX dX1_isSound_150 (by decide) ?_
                      exact ih2 (j + 1) _ (by omega) (by omega) (by omega)
                    · skip
                      have hj : j = ((F.getD i.toNat 0 : Nat) : Int) := by omega
                      rw [← hj] at hzi
                      refine g_iload (pc' := 137) hX dX1_isSound_135 rfl rfl ?_
                      refine g_if_ne (pc' := 140) (tgt := 144) hX dX1_isSound_137 (by decide) rfl (by omega) (fun h137 => absurd h137 (by omega)) (fun h137 => ?_)
                      refine g_iconst (pc' := 141) hX dX1_isSound_140 rfl ?_
                      refine g_goto (tgt := 145) hX dX1_isSound_141 (by decide) ?_
                      refine g_istore_4 (pc' := 147) hX dX1_isSound_145 (by decide) rfl rfl ?_
                      refine g_iinc_6 (pc' := 150) hX dX1_isSound_147 (by decide) rfl rfl ?_
                      refine g_goto (tgt := 79) hX dX1_isSound_150 (by decide) ?_
                      exact ih2 (j + 1) _ (by omega) (by omega) (by omega)
              exact loop2 100 0 _ (by omega) (by omega) (by omega)
        have ex := fun x7 => loop 100 0 (9, 0) x7 (by omega) (by omega) (by omega) (Or.inl rfl)
        rw [Int.sub_zero] at ex
        exact GG_less (ex _) (by omega) (by omega)
      · skip
        refine g_bipush (pc' := 20) hX dX1_isSound_18 rfl rfl ?_
        refine g_iload_n (pc' := 21) hX dX1_isSound_20 rfl rfl ?_
        refine g_imul (pc' := 22) hX dX1_isSound_21 rfl ?_
        refine g_aload_n (pc' := 23) hX dX1_isSound_22 rfl rfl ?_
        refine gf_X1_48 (pc' := 26) hX dX1_isSound_23 hV.h0 hV.hk rfl ?_
        rw [hV.f 11 (by decide) (show xF 11 = 11 from rfl)]
        refine g_iload_n (pc' := 27) hX dX1_isSound_26 rfl rfl ?_
        refine g_ialdL (pc' := 28) hX dX1_isSound_27 (by have := hV.b0; omega) (hV.kk 11 (by decide) (show xK b 11 = 50 from rfl)) (hV.ln 11 (by decide) (show xL 11 = 7 from rfl)) (by omega) rfl ?_
        rw [hF1 i (by omega) (by omega), show i.toNat = n.toNat - ((n - 1 - i).toNat + 1) by omega]
        refine g_iadd (pc' := 29) hX dX1_isSound_28 rfl ?_
        refine g_istore_n_2 (pc' := 30) hX dX1_isSound_29 (by decide) rfl rfl ?_
        refine g_iinc_3 (pc' := 33) hX dX1_isSound_30 (by decide) rfl rfl ?_
        refine g_goto (tgt := 14) hX dX1_isSound_33 (by decide) ?_
        have ex := ih (i + -1) (by omega) (by omega) (by omega)
        rw [show (n - 1 - (i + -1)).toNat = (n - 1 - i).toNat + 1 by omega] at ex
        exact ex
  have ex := loop 100 (n - 1) (by omega) (by omega) (by omega)
  rw [Int.sub_self] at ex
  exact GG_less ex (by omega) (by omega)

end S13S
