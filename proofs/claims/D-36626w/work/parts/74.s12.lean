/-! ANSWERS: mean, share, checksum (by gen/spec_s12.py) -/
set_option maxRecDepth 100000
set_option maxHeartbeats 8000000
/-- a new array of five numbers -/
def A5 (E : Ev) (w : Wd) (a : Int) (u : Wd) : Prop := Gr NoP w u ∧ (eB E : Int) ≤ a ∧ kdw w a = 0 ∧ kdw u a = 50 ∧ lnw u a = 5
section S12S
variable {X : Cx} {bc bs pc : Nat} {lv : List (Nat × Int)} {st : List Value} {E : Ev} {w w0 u u' : Wd} {P : Int → Int → Prop} {T r c n m sn sm l i j k v a z xo b it x y sz fd far q row base L r0 : Int} {h h' sh C C0 R : Int → Int → Int} {f g : Int → Int} {e : En} {S : Int → Prop} {s N : Nat}
theorem A5.up (H : A5 E w a u) (K : ∀ u', A5 E w a u' → (∀ q, rdw u' a q = if q = i then x else rdw u a q) → GG X bc bs u' pc lv st) : GG X bc bs (upw u a i x) pc lv st :=
  K _ ⟨H.1.upN H.2.2.1, H.2.1, H.2.2.1, H.2.2.2.1, H.2.2.2.2⟩ (fun q => by
    by_cases hq : q = i
    · rw [rd_up_eq ⟨rfl, hq⟩, if_pos hq]
    · rw [rd_up_ne (by omega), if_neg hq])
theorem A5.nop (H : A5 E w a u) (hG : Gr NoP u u') : A5 E w a u' ∧ ∀ q, rdw u' a q = rdw u a q := by
  have hk : kdw u a ≠ 0 := by rw [H.2.2.2.1]; decide
  exact ⟨⟨H.1.trN hG (fun _ _ _ z => z.elim), H.2.1, H.2.2.1, (hG.kd hk).trans H.2.2.2.1, (hG.ln hk).trans H.2.2.2.2⟩, fun q => hG.rd hk id⟩
theorem SX.nop (H : SX E xo b n m h sn sm sh e w u) (hG : Gr NoP u u') : SX E xo b n m h sn sm sh e w u' := ⟨H.1.nop hG, GX.nop H.2 hG⟩
theorem XT.cFb (H : XT E xo n m h sn sm sh w) : 0 ≤ cF n m h ∧ cF n m h ≤ 49 := by
  have hb := H.1.2.1
  have h1 := sm_b (k := n.toNat) (f := fun i => sm' m.toNat (fun j => hfg (h i j))) (B := 7) (fun i i0 i1 => by
    have h2 := sm_b (k := m.toNat) (f := fun j => hfg (h i j)) (B := 1) (fun j j0 j1 => by have := hfg_b (v := h i j); omega)
    exact ⟨h2.1, by have := h2.2; omega⟩)
  unfold cF
  exact ⟨h1.1, by have := h1.2; omega⟩
theorem XT.tSb (H : XT E xo n m h sn sm sh w) : 0 ≤ tS n m h ∧ tS n m h ≤ 49000 := by
  have hb := H.1.2.1
  have hC := H.bCn
  have h1 := sm_b (k := n.toNat) (f := rS n m h) (B := 7000) (fun i i0 i1 => by
    have h2 := sm_b (k := n.toNat) (f := tC m h i) (B := 1000) (fun j j0 j1 => hC i j i0 (by omega) j0 (by omega))
    unfold rS
    exact ⟨h2.1, by have := h2.2; omega⟩)
  unfold tS
  exact ⟨h1.1, by have := h1.2; omega⟩
theorem XT.kb (H : XT E xo n m h sn sm sh w) : 0 ≤ (LK n m h).1 ∧ (LK n m h).1 ≤ 7000 := by
  have hb := H.1.2.1
  have hC := H.bCn
  obtain ⟨⟨-, σ, hσ, e⟩, -⟩ := OB_mn (n := n) (m := m) (h := h) (by omega) hC
  have := (OB_b (n := n) (m := m) (h := h) (by omega) hC σ hσ).1
  omega
theorem XT.f7 (H : XT E xo n m h sn sm sh w) {i : Int} (hi : 0 ≤ i ∧ i < n) : (((LK n m h).2.2.2.2.2.getD i.toNat 0 : Nat) : Int) < n := by
  have hb := H.1.2.1
  have hm := (OB_mn (n := n) (m := m) (h := h) (by omega) H.bCn).2
  have := pm_get hm (k := i.toNat) (by omega)
  omega
theorem c_o_meanCost (hH : XX E xo b n m h sn sm sh e w) (hnn : vf_n64 (mnC n m h)) : Call E mX1_meanCost 5 7 28 [vR xo] w (qG (fun r w' => r = .double (mnC n m h) ∧ SX E xo b n m h sn sm sh e w w')) := by
  refine call_of (av := [(1, xo)]) (by decide +kernel) rfl (Nat.le_of_ble_eq_true rfl) ?_
  intro X hX hF hname
  show GG X 7 28 w 0 [(1, xo)] []
  have hS := (SB.rf hH).sx hH.1
  have hV := hH.1
  refine g_aload_n (pc' := 1) hX dX1_meanCost_0 rfl rfl ?_
  refine gV0I (pc' := 4) hX dX1_meanCost_1 ml_X1_231 gc_X1 hV.h0 hV.hk (c_k_totalCost hS.1) (Nat.le_of_ble_eq_true rfl) (by decide) ⟨by omega, by omega⟩ rfl (fun r1 w1 q1 => ?_)
  obtain ⟨hr1, hG1⟩ := q1
  rw [hr1]
  have hS := hS.nop hG1
  have hV := hS.1.1
  refine g_i2d (pc' := 5) hX dX1_meanCost_4 rfl ?_
  refine g_aload_n (pc' := 6) hX dX1_meanCost_5 rfl rfl ?_
  refine gf_X1_7 (pc' := 9) hX dX1_meanCost_6 hV.h0 hV.hk rfl ?_
  rw [hS.1.2.2.1.1.1.1]
  refine g_aload_n (pc' := 10) hX dX1_meanCost_9 rfl rfl ?_
  refine gf_X1_7 (pc' := 13) hX dX1_meanCost_10 hV.h0 hV.hk rfl ?_
  rw [hS.1.2.2.1.1.1.1]
  refine g_imul (pc' := 14) hX dX1_meanCost_13 rfl ?_
  refine g_i2d (pc' := 15) hX dX1_meanCost_14 rfl ?_
  refine g_ddiv (pc' := 16) hX dX1_meanCost_15 hnn rfl ?_
  exact g_retD hX hF dX1_meanCost_16 ⟨rfl, hS⟩

theorem c_o_shareOf (hH : XX E xo b n m h sn sm sh e w) (br : -2147483648 ≤ r ∧ r ≤ 2147483647) (hnn : 0 ≤ r ∧ r < n → vf_n32 (shC n m h r)) : Call E mX1_shareOf 13 687 4661 [vR xo, vI r] w (qGX (fun v w' => (0 ≤ r ∧ r ≤ n - 1) ∧ v = .float (shC n m h r) ∧ SX E xo b n m h sn sm sh e w w') (fun k w' => k = 1 ∧ ¬ (0 ≤ r ∧ r ≤ n - 1) ∧ Gr NoP w w')) := by
  refine call_of (av := [(1, xo), (0, r)]) (by decide +kernel) rfl (Nat.le_of_ble_eq_true rfl) ?_
  intro X hX hF hname
  show GG X 687 4661 w 0 [(1, xo), (0, r), (9, 0)] []
  have hS := SB.rf hH
  have hV := hH.1
  have hn := hH.2.2.1.1.2.1
  have hnb : 1 ≤ n ∧ n ≤ 7 := by omega
  have hC := hH.2.2.1.bCn
  refine g_aload_n (pc' := 1) hX dX1_shareOf_0 rfl rfl ?_
  refine g_iload_n (pc' := 2) hX dX1_shareOf_1 rfl rfl ?_
  refine gV1E0 (pc' := 5) hX dX1_shareOf_2 ml_X1_169 gc_X1 hV.h0 hV.hk (c_k_isRow hV hS.1.2.2.1.1.1.1 (by omega) (by omega)) (Nat.le_of_ble_eq_true rfl) (by decide) rfl ?_
  refine gS1UX (pc' := 8) hX dX1_shareOf_5 ml_X1_176 (c_k_needPlace (by omega)) (Nat.le_of_ble_eq_true rfl) (by decide) ⟨by omega, by omega⟩ rfl (fun w5 q5 => ?_) (fun k2 w2 hk0 hq => by
    obtain ⟨rfl, hz5, hG5⟩ := hq
    exact g_outGX hX hF hk0 ⟨rfl, by omega, hG5⟩)
  obtain ⟨hz5, hw5⟩ := q5
  rw [hw5]
  refine g_aload_n (pc' := 9) hX dX1_shareOf_8 rfl rfl ?_
  refine gV0I (pc' := 12) hX dX1_shareOf_9 ml_X1_292 gc_X1 hV.h0 hV.hk (c_s_findFirst hS.1) (Nat.le_of_ble_eq_true rfl) (by decide) ⟨by omega, by omega⟩ rfl (fun r9 w9 q9 => ?_)
  obtain ⟨hr9, hS9, h69, hA9, hF9⟩ := q9
  have hS := hS.tr hS9
  have hV := hS.1.1
  have hkb := hH.2.2.1.kb
  have hrr : 0 ≤ r ∧ r < n := by omega
  have hf7 := hH.2.2.1.f7 hrr
  have hCr := hC r _ hrr.1 hrr.2 (Int.natCast_nonneg _) hf7
  refine g_istore_n_2 (pc' := 13) hX dX1_shareOf_12 (by decide) rfl rfl ?_
  refine g_iload_n (pc' := 14) hX dX1_shareOf_13 rfl rfl ?_
  refine g_if_ne (pc' := 17) (tgt := 21) hX dX1_shareOf_14 (by decide) rfl (by omega) (fun h14 => ?_) (fun h14 => ?_)
  · skip
    have hsh : shC n m h r = FP.fdiv (FP.i2f (Int32.ofInt (tC m h r (((LK n m h).2.2.2.2.2.getD r.toNat 0 : Nat) : Int)))) (FP.i2f (Int32.ofInt r9)) := by
      unfold shC
      rw [if_neg (by omega), hr9]
    refine g_aload_n (pc' := 22) hX dX1_shareOf_21 rfl rfl ?_
    refine gf_X1_35 (pc' := 25) hX dX1_shareOf_22 hV.h0 hV.hk rfl ?_
    rw [hV.f 7 (by decide) (show xF 7 = 0 from rfl)]
    refine g_iload_n (pc' := 26) hX dX1_shareOf_25 rfl rfl ?_
    refine g_aaldL (pc' := 27) hX dX1_shareOf_26 (by have := hV.b0; omega) (by rw [hV.kk 0 (by decide) (show xK b 0 = 54 from rfl)]; decide) (hV.ln 0 (by decide) (show xL 0 = 7 from rfl)) (by omega) rfl ?_
    rw [hV.c0 (by omega)]
    refine g_aload_n (pc' := 28) hX dX1_shareOf_27 rfl rfl ?_
    refine gf_X1_48 (pc' := 31) hX dX1_shareOf_28 hV.h0 hV.hk rfl ?_
    rw [hV.f 11 (by decide) (show xF 11 = 11 from rfl)]
    refine g_iload_n (pc' := 32) hX dX1_shareOf_31 rfl rfl ?_
    refine g_ialdL (pc' := 33) hX dX1_shareOf_32 (by have := hV.b0; omega) (hV.kk 11 (by decide) (show xK b 11 = 50 from rfl)) (hV.ln 11 (by decide) (show xL 11 = 7 from rfl)) (by omega) rfl ?_
    rw [hF9 r hrr.1 hrr.2]
    refine g_ialdL (pc' := 34) hX dX1_shareOf_33 (by have := hV.b0; omega) (hV.ck (by omega)) (hV.cl (by omega)) (by omega) rfl ?_
    rw [hA9 r _ hrr.1 hrr.2 (Int.natCast_nonneg _) hf7]
    refine g_i2f (pc' := 35) hX dX1_shareOf_34 rfl ?_
    refine g_iload_n (pc' := 36) hX dX1_shareOf_35 rfl rfl ?_
    refine g_i2f (pc' := 37) hX dX1_shareOf_36 rfl ?_
    refine g_fdiv (pc' := 38) hX dX1_shareOf_37 (by rw [← hsh]; exact hnn hrr) rfl ?_
    exact g_retFX hX hF dX1_shareOf_38 ⟨by omega, by rw [hsh], hS.sx hH.1⟩
  · skip
    have hsh : shC n m h r = 0 := by
      unfold shC
      rw [if_pos (by omega)]
    refine g_fconst0 (pc' := 18) hX dX1_shareOf_17 rfl ?_
    refine g_goto (tgt := 38) hX dX1_shareOf_18 (by decide) ?_
    exact g_retFX hX hF dX1_shareOf_38 ⟨by omega, by rw [hsh], hS.sx hH.1⟩

theorem c_o_checksum (hH : XX E xo b n m h sn sm sh e w) (hk : -1 ≤ e.k ∧ e.k ≤ 1000) : Call E mX1_checksum 13 702 4720 [vR xo] w (qL (fun r w' => r = ckS n m h e.k sn sm sh ∧ SX E xo b n m h sn sm sh e w w')) := by
  refine call_of (av := [(1, xo)]) (by decide +kernel) rfl (Nat.le_of_ble_eq_true rfl) ?_
  intro X hX hF hname
  show GG X 702 4720 w 0 [(1, xo), (9, 0), (9, 0), (9, 0), (9, 0), (9, 0), (9, 0), (9, 0)] []
  have hS := SB.rf hH
  have hV := hH.1
  have hn := hH.2.2.1.1.2.1
  have hnb : 1 ≤ n ∧ n ≤ 7 := by omega
  have hC := hH.2.2.1.bCn
  have hsn := hH.2.2.1.1.2.2
  have hC2 := hH.2.2.1.bCs
  refine g_ldc2 (pc' := 3) (n := 17) hX dX1_checksum_0 q974 rfl rfl ?_
  refine g_lstore_n_1 (pc' := 4) hX dX1_checksum_3 (by decide) rfl rfl ?_
  refine g_iconst (pc' := 5) hX dX1_checksum_4 rfl ?_
  refine g_fr (fun hfr hs0 => ?_)
  refine g_szB hX (fun hsB => ?_)
  refine g_newa (pc' := 7) 0 5 hX dX1_checksum_5 (by decide) rfl q229 rfl (by omega) (by omega) (by omega) rfl ?_
  obtain ⟨a5, ha5⟩ : ∃ a5, a5 = szw w := ⟨_, rfl⟩
  have hA5 : A5 E w a5 (alw w (50 + 0) 5 (fun _ => dv (aF 0))) := ⟨Gr.rf.al hfr, by omega, hfr a5 (by omega), by rw [kd_al, if_pos ha5], by rw [ln_al, if_pos ha5]⟩
  rw [← ha5]
  generalize alw w (50 + 0) 5 (fun _ => dv (aF 0)) = u0 at *
  have hS : SX E xo b n m h sn sm sh e w u0 := ((SB.rf hH).sx hH.1).nop hA5.1
  have hV := hS.1.1
  refine g_dup (pc' := 8) hX dX1_checksum_7 (vR_cat _) rfl ?_
  refine g_iconst (pc' := 9) hX dX1_checksum_8 rfl ?_
  refine g_aload_n (pc' := 10) hX dX1_checksum_9 rfl rfl ?_
  refine gf_X1_7 (pc' := 13) hX dX1_checksum_10 hV.h0 hV.hk rfl ?_
  rw [hS.1.2.2.1.1.1.1]
  refine g_iastL (pc' := 14) hX dX1_checksum_13 hA5.2.1 hA5.2.2.2.1 hA5.2.2.2.2 (by omega) rfl ?_
  refine hA5.up (fun u hA5 g5 => ?_)
  have hS : SX E xo b n m h sn sm sh e w u := ((SB.rf hH).sx hH.1).nop hA5.1
  have hV := hS.1.1
  have v0 : rdw u a5 0 = n := by rw [g5]; rfl
  refine g_dup (pc' := 15) hX dX1_checksum_14 (vR_cat _) rfl ?_
  refine g_iconst (pc' := 16) hX dX1_checksum_15 rfl ?_
  refine g_aload_n (pc' := 17) hX dX1_checksum_16 rfl rfl ?_
  refine gf_X1_13 (pc' := 20) hX dX1_checksum_17 hV.h0 hV.hk rfl ?_
  first
    | rw [hS.1.2.2.1.1.1.2.1]
    | (repeat rw [rd_up_ne (by omega)]); rw [hS.1.2.2.1.1.1.2.1]
  refine g_iastL (pc' := 21) hX dX1_checksum_20 hA5.2.1 hA5.2.2.2.1 hA5.2.2.2.2 (by omega) rfl ?_
  refine hA5.up (fun u hA5 g5 => ?_)
  have hS : SX E xo b n m h sn sm sh e w u := ((SB.rf hH).sx hH.1).nop hA5.1
  have hV := hS.1.1
  have v1 : rdw u a5 0 = n ∧ rdw u a5 1 = m := ⟨by rw [g5]; exact v0, by rw [g5]; rfl⟩
  refine g_dup (pc' := 22) hX dX1_checksum_21 (vR_cat _) rfl ?_
  refine g_iconst (pc' := 23) hX dX1_checksum_22 rfl ?_
  refine g_aload_n (pc' := 24) hX dX1_checksum_23 rfl rfl ?_
  refine gV0I (pc' := 27) hX dX1_checksum_24 ml_X1_201 gc_X1 hV.h0 hV.hk (c_k_forbiddenCount hS.1) (Nat.le_of_ble_eq_true rfl) (by decide) ⟨by omega, by omega⟩ rfl (fun r24 w24 q24 => ?_)
  obtain ⟨hr24, hG24⟩ := q24
  rw [hr24]
  obtain ⟨hA5, hk24⟩ := hA5.nop hG24
  have hS := hS.nop hG24
  have hV := hS.1.1
  refine g_iastL (pc' := 28) hX dX1_checksum_27 hA5.2.1 hA5.2.2.2.1 hA5.2.2.2.2 (by omega) rfl ?_
  refine hA5.up (fun u hA5 g5 => ?_)
  have hS : SX E xo b n m h sn sm sh e w u := ((SB.rf hH).sx hH.1).nop hA5.1
  have hV := hS.1.1
  have v2 : rdw u a5 0 = n ∧ rdw u a5 1 = m ∧ rdw u a5 2 = cF n m h := ⟨by rw [g5, hk24]; exact v1.1, by rw [g5, hk24]; exact v1.2, by rw [g5]; rfl⟩
  refine g_dup (pc' := 29) hX dX1_checksum_28 (vR_cat _) rfl ?_
  refine g_iconst (pc' := 30) hX dX1_checksum_29 rfl ?_
  refine g_aload_n (pc' := 31) hX dX1_checksum_30 rfl rfl ?_
  refine gV0I (pc' := 34) hX dX1_checksum_31 ml_X1_231 gc_X1 hV.h0 hV.hk (c_k_totalCost hS.1) (Nat.le_of_ble_eq_true rfl) (by decide) ⟨by omega, by omega⟩ rfl (fun r31 w31 q31 => ?_)
  obtain ⟨hr31, hG31⟩ := q31
  rw [hr31]
  obtain ⟨hA5, hk31⟩ := hA5.nop hG31
  have hS := hS.nop hG31
  have hV := hS.1.1
  refine g_iastL (pc' := 35) hX dX1_checksum_34 hA5.2.1 hA5.2.2.2.1 hA5.2.2.2.2 (by omega) rfl ?_
  refine hA5.up (fun u hA5 g5 => ?_)
  have hS : SX E xo b n m h sn sm sh e w u := ((SB.rf hH).sx hH.1).nop hA5.1
  have hV := hS.1.1
  have v3 : rdw u a5 0 = n ∧ rdw u a5 1 = m ∧ rdw u a5 2 = cF n m h ∧ rdw u a5 3 = tS n m h := ⟨by rw [g5, hk31]; exact v2.1, by rw [g5, hk31]; exact v2.2.1, by rw [g5, hk31]; exact v2.2.2, by rw [g5]; rfl⟩
  refine g_dup (pc' := 36) hX dX1_checksum_35 (vR_cat _) rfl ?_
  refine g_iconst (pc' := 37) hX dX1_checksum_36 rfl ?_
  refine g_aload_n (pc' := 38) hX dX1_checksum_37 rfl rfl ?_
  refine gV0E0 (pc' := 41) hX dX1_checksum_38 ml_X1_350 gc_X1 hV.h0 hV.hk (c_o_stepsMade hS.1 (by omega)) (Nat.le_of_ble_eq_true rfl) (by decide) rfl ?_
  refine g_iastL (pc' := 42) hX dX1_checksum_41 hA5.2.1 hA5.2.2.2.1 hA5.2.2.2.2 (by omega) rfl ?_
  refine hA5.up (fun u hA5 g5 => ?_)
  have hS : SX E xo b n m h sn sm sh e w u := ((SB.rf hH).sx hH.1).nop hA5.1
  have hV := hS.1.1
  have v4 : rdw u a5 0 = n ∧ rdw u a5 1 = m ∧ rdw u a5 2 = cF n m h ∧ rdw u a5 3 = tS n m h ∧ rdw u a5 4 = e.k := ⟨by rw [g5]; exact v3.1, by rw [g5]; exact v3.2.1, by rw [g5]; exact v3.2.2.1, by rw [g5]; exact v3.2.2.2, by rw [g5]; rfl⟩
  have hcf := hH.2.2.1.cFb
  have hts := hH.2.2.1.tSb
  have hkb := hH.2.2.1.kb
  have hu5 := hA5
  clear v0 v1 v2 v3
  refine g_astore_n_3 (pc' := 43) hX dX1_checksum_42 (by decide) rfl rfl ?_
  refine g_aload_n (pc' := 44) hX dX1_checksum_43 rfl rfl ?_
  refine g_astore_4 (pc' := 46) hX dX1_checksum_44 (by decide) rfl rfl ?_
  refine g_aload (pc' := 48) hX dX1_checksum_46 rfl rfl ?_
  refine g_alenL (pc' := 49) hX dX1_checksum_48 (by have := hA5.2.1; omega) (by rw [hA5.2.2.2.1]; decide) hA5.2.2.2.2 (by omega) rfl ?_
  refine g_istore_5 (pc' := 51) hX dX1_checksum_49 (by decide) rfl rfl ?_
  refine g_iconst (pc' := 52) hX dX1_checksum_51 rfl ?_
  refine g_istore_6 (pc' := 54) hX dX1_checksum_52 (by decide) rfl rfl ?_
  have loop : ∀ (f : Nat) (i : Int) (x7 : Nat × Int), 0 ≤ i → i ≤ 5 → 5 < i + f → GG X 686 4655 u 54 [(1, xo), (2, hf (rdw u a5) i.toNat 17), (9, 0), (1, a5), (1, a5), (0, 5), (0, i), x7] [] := by
    intro f
    induction f with
    | zero => intro i x7 i0 i1 hfz; exact absurd hfz (by omega)
    | succ f ih =>
      intro i x7 i0 i1 hfz
      refine g_iload (pc' := 56) hX dX1_checksum_54 rfl rfl ?_
      refine g_iload (pc' := 58) hX dX1_checksum_56 rfl rfl ?_
      refine g_icmp_ge (pc' := 61) (tgt := 84) hX dX1_checksum_58 (by decide) rfl (by omega) (by omega) (fun h58 => ?_) (fun h58 => ?_)
      · skip
        have hck0 : hf (rdw u a5) i.toNat 17 = ck0 n m h e.k := by
          rw [show i.toNat = 5 by omega]
          show 31 * (31 * (31 * (31 * (31 * 17 + rdw u a5 0) + rdw u a5 1) + rdw u a5 2) + rdw u a5 3) + rdw u a5 4 = _
          rw [v4.1, v4.2.1, v4.2.2.1, v4.2.2.2.1, v4.2.2.2.2]
          unfold ck0
          omega
        rw [hck0]
        obtain ⟨x6, hx6⟩ : ∃ x6 : Nat × Int, x6 = (0, i) := ⟨_, rfl⟩
        rw [← hx6]
        refine g_iconst (pc' := 85) hX dX1_checksum_84 rfl ?_
        refine g_istore_4 (pc' := 87) hX dX1_checksum_85 (by decide) rfl rfl ?_
        have la1 : ∀ (q : Nat) (i : Int) (x5 : Nat × Int), 0 ≤ i → i ≤ n → n < i + q → GG X 686 4655 u 87 [(1, xo), (2, hf2 n.toNat (tC m h) i.toNat (ck0 n m h e.k)), (9, 0), (1, a5), (0, i), x5, x6, x7] [] := by
          intro q
          induction q with
          | zero => intro i x5 _ _ hq; exact absurd hq (by omega)
          | succ q ih1 =>
            intro i x5 i0 i1 hq
            refine g_iload (pc' := 89) hX dX1_checksum_87 rfl rfl ?_
            refine g_aload_n (pc' := 90) hX dX1_checksum_89 rfl rfl ?_
            refine gf_X1_7 (pc' := 93) hX dX1_checksum_90 hV.h0 hV.hk rfl ?_
            rw [hS.1.2.2.1.1.1.1]
            refine g_icmp_ge (pc' := 96) (tgt := 136) hX dX1_checksum_93 (by decide) rfl (by omega) (by omega) (fun h93 => ?_) (fun h93 => ?_)
            · skip
              have hn1 : hf2 n.toNat (tC m h) i.toNat (ck0 n m h e.k) = hf2 n.toNat (tC m h) n.toNat (ck0 n m h e.k) := by rw [show i = n by omega]
              rw [hn1]
              refine g_ldc2 (pc' := 139) (n := 31) hX dX1_checksum_136 q977 rfl rfl ?_
              refine g_lload_n (pc' := 140) hX dX1_checksum_139 rfl rfl ?_
              refine g_lmul (pc' := 141) hX dX1_checksum_140 rfl ?_
              refine g_aload_n (pc' := 142) hX dX1_checksum_141 rfl rfl ?_
              refine gV0I (pc' := 145) hX dX1_checksum_142 ml_X1_292 gc_X1 hV.h0 hV.hk (c_s_findFirst hS.1) (Nat.le_of_ble_eq_true rfl) (by decide) ⟨by omega, by omega⟩ rfl (fun r142 w142 q142 => ?_)
              obtain ⟨hr142, hS9, h69, hA9, hF9⟩ := q142
              have hS := hS.tr (hS9.sx hS.1.1)
              have hV := hS.1.1
              refine g_i2l (pc' := 146) hX dX1_checksum_145 (by omega) rfl ?_
              refine g_ladd (pc' := 147) hX dX1_checksum_146 rfl ?_
              refine g_lstore_n_1 (pc' := 148) hX dX1_checksum_147 (by decide) rfl rfl ?_
              rw [show 31 * hf2 n.toNat (tC m h) n.toNat (ck0 n m h e.k) + r142 = ck1 n m h e.k by rw [hr142]; rfl]
              refine g_iconst (pc' := 149) hX dX1_checksum_148 rfl ?_
              refine g_istore_4 (pc' := 151) hX dX1_checksum_149 (by decide) rfl rfl ?_
              have lb : ∀ (q : Nat) (i2 : Int), 0 ≤ i2 → i2 ≤ n → n < i2 + q → GG X 0 0 w142 151 [(1, xo), (2, hf (fun i : Int => (((LK n m h).2.2.2.2.2.getD i.toNat 0 : Nat) : Int)) i2.toNat (ck1 n m h e.k)), (9, 0), (1, a5), (0, i2), x5, x6, x7] [] := by
                intro q
                induction q with
                | zero => intro i2 _ _ hq; exact absurd hq (by omega)
                | succ q ihb =>
                  intro i2 i20 i21 hq
                  refine g_iload (pc' := 153) hX dX1_checksum_151 rfl rfl ?_
                  refine g_aload_n (pc' := 154) hX dX1_checksum_153 rfl rfl ?_
                  refine gf_X1_7 (pc' := 157) hX dX1_checksum_154 hV.h0 hV.hk rfl ?_
                  rw [hS.1.2.2.1.1.1.1]
                  refine g_icmp_ge (pc' := 160) (tgt := 181) hX dX1_checksum_157 (by decide) rfl (by omega) (by omega) (fun h157 => ?_) (fun h157 => ?_)
                  · skip
                    have hn2 : hf (fun i : Int => (((LK n m h).2.2.2.2.2.getD i.toNat 0 : Nat) : Int)) i2.toNat (ck1 n m h e.k) = hf (fun i : Int => (((LK n m h).2.2.2.2.2.getD i.toNat 0 : Nat) : Int)) n.toNat (ck1 n m h e.k) := by rw [show i2 = n by omega]
                    rw [hn2]
                    refine g_ldc2 (pc' := 184) (n := 31) hX dX1_checksum_181 q977 rfl rfl ?_
                    refine g_ldc2 (pc' := 187) (n := 31) hX dX1_checksum_184 q977 rfl rfl ?_
                    refine g_lload_n (pc' := 188) hX dX1_checksum_187 rfl rfl ?_
                    refine g_lmul (pc' := 189) hX dX1_checksum_188 rfl ?_
                    refine g_aload_n (pc' := 190) hX dX1_checksum_189 rfl rfl ?_
                    refine gf_X1_24 (pc' := 193) hX dX1_checksum_190 hV.h0 hV.hk rfl ?_
                    rw [hS.1.2.2.1.1.1.2.2.1]
                    refine g_i2l (pc' := 194) hX dX1_checksum_193 (by omega) rfl ?_
                    refine g_ladd (pc' := 195) hX dX1_checksum_194 rfl ?_
                    refine g_lmul (pc' := 196) hX dX1_checksum_195 rfl ?_
                    refine g_aload_n (pc' := 197) hX dX1_checksum_196 rfl rfl ?_
                    refine gf_X1_27 (pc' := 200) hX dX1_checksum_197 hV.h0 hV.hk rfl ?_
                    rw [hS.1.2.2.1.1.1.2.2.2]
                    refine g_i2l (pc' := 201) hX dX1_checksum_200 (by omega) rfl ?_
                    refine g_ladd (pc' := 202) hX dX1_checksum_201 rfl ?_
                    refine g_lstore_n_1 (pc' := 203) hX dX1_checksum_202 (by decide) rfl rfl ?_
                    rw [show 31 * (31 * hf (fun i : Int => (((LK n m h).2.2.2.2.2.getD i.toNat 0 : Nat) : Int)) n.toNat (ck1 n m h e.k) + sn) + sm = ck2 n m h e.k sn sm from rfl]
                    refine g_iconst (pc' := 204) hX dX1_checksum_203 rfl ?_
                    refine g_istore_4 (pc' := 206) hX dX1_checksum_204 (by decide) rfl rfl ?_
                    have lc1 : ∀ (q : Nat) (i : Int) (x5 : Nat × Int), 0 ≤ i → i ≤ sn → sn < i + q → GG X 0 0 w142 206 [(1, xo), (2, hf2 sn.toNat (tC sm sh) i.toNat (ck2 n m h e.k sn sm)), (9, 0), (1, a5), (0, i), x5, x6, x7] [] := by
                      intro q
                      induction q with
                      | zero => intro i x5 _ _ hq; exact absurd hq (by omega)
                      | succ q ih1 =>
                        intro i x5 i0 i1 hq
                        refine g_iload (pc' := 208) hX dX1_checksum_206 rfl rfl ?_
                        refine g_aload_n (pc' := 209) hX dX1_checksum_208 rfl rfl ?_
                        refine gf_X1_24 (pc' := 212) hX dX1_checksum_209 hV.h0 hV.hk rfl ?_
                        rw [hS.1.2.2.1.1.1.2.2.1]
                        refine g_icmp_ge (pc' := 215) (tgt := 263) hX dX1_checksum_212 (by decide) rfl (by omega) (by omega) (fun h212 => ?_) (fun h212 => ?_)
                        · skip
                          refine g_lload_n (pc' := 264) hX dX1_checksum_263 rfl rfl ?_
                          exact g_retL hX hF dX1_checksum_264 ⟨by rw [show i = sn by omega]; rfl, hS⟩
                        · skip
                          refine g_iconst (pc' := 216) hX dX1_checksum_215 rfl ?_
                          refine g_istore_5 (pc' := 218) hX dX1_checksum_216 (by decide) rfl rfl ?_
                          have lc2 : ∀ (q : Nat) (j : Int), 0 ≤ j → j ≤ sn → sn < j + q → GG X 0 0 w142 218 [(1, xo), (2, hf ((tC sm sh) i) j.toNat (hf2 sn.toNat (tC sm sh) i.toNat (ck2 n m h e.k sn sm))), (9, 0), (1, a5), (0, i), (0, j), x6, x7] [] := by
                            intro q
                            induction q with
                            | zero => intro j _ _ hq; exact absurd hq (by omega)
                            | succ q ih2 =>
                              intro j j0 j1 hq
                              refine g_iload (pc' := 220) hX dX1_checksum_218 rfl rfl ?_
                              refine g_aload_n (pc' := 221) hX dX1_checksum_220 rfl rfl ?_
                              refine gf_X1_24 (pc' := 224) hX dX1_checksum_221 hV.h0 hV.hk rfl ?_
                              rw [hS.1.2.2.1.1.1.2.2.1]
                              refine g_icmp_ge (pc' := 227) (tgt := 257) hX dX1_checksum_224 (by decide) rfl (by omega) (by omega) (fun h224 => ?_) (fun h224 => ?_)
                              · skip
                                refine g_iinc_4 (pc' := 260) hX dX1_checksum_257 (by decide) rfl rfl ?_
                                refine g_goto (tgt := 206) hX dX1_checksum_260 (by decide) ?_
                                have ex := ih1 (i + 1) (0, j) (by omega) (by omega) (by omega)
                                rw [hf2_s i0] at ex
                                rw [show j = sn by omega]
                                rw [show j = sn by omega] at ex
                                exact ex
                              · skip
                                refine g_ldc2 (pc' := 230) (n := 31) hX dX1_checksum_227 q977 rfl rfl ?_
                                refine g_lload_n (pc' := 231) hX dX1_checksum_230 rfl rfl ?_
                                refine g_lmul (pc' := 232) hX dX1_checksum_231 rfl ?_
                                refine g_aload_n (pc' := 233) hX dX1_checksum_232 rfl rfl ?_
                                refine g_aload_n (pc' := 234) hX dX1_checksum_233 rfl rfl ?_
                                refine gf_X1_30 (pc' := 237) hX dX1_checksum_234 hV.h0 hV.hk rfl ?_
                                rw [show rdw w142 xo 5 = rdw w142 xo 5 from rfl]
                                refine g_aload_n (pc' := 238) hX dX1_checksum_237 rfl rfl ?_
                                refine gf_X1_27 (pc' := 241) hX dX1_checksum_238 hV.h0 hV.hk rfl ?_
                                rw [hS.1.2.2.1.1.1.2.2.2]
                                refine g_iload (pc' := 243) hX dX1_checksum_241 rfl rfl ?_
                                refine g_iload (pc' := 245) hX dX1_checksum_243 rfl rfl ?_
                                refine gV4E0 (pc' := 248) hX dX1_checksum_245 ml_X1_143 gc_X1 hV.h0 hV.hk (c_k_costIn hV hS.1.2.2.1.2.1.2.1 (by omega) (by omega) (by omega) hS.1.2.2.1.2.2.2) (Nat.le_of_ble_eq_true rfl) (by decide) rfl ?_
                                have hcb1 := hC2 i j i0 (by omega) j0 (by omega)
                                refine g_i2l (pc' := 249) hX dX1_checksum_248 (by omega) rfl ?_
                                refine g_ladd (pc' := 250) hX dX1_checksum_249 rfl ?_
                                refine g_lstore_n_1 (pc' := 251) hX dX1_checksum_250 (by decide) rfl rfl ?_
                                refine g_iinc_5 (pc' := 254) hX dX1_checksum_251 (by decide) rfl rfl ?_
                                refine g_goto (tgt := 218) hX dX1_checksum_254 (by decide) ?_
                                have ex := ih2 (j + 1) (by omega) (by omega) (by omega)
                                rw [hf_s j0] at ex
                                exact ex
                          exact lc2 100 0 (by omega) (by omega) (by omega)
                    exact lc1 100 0 _ (by omega) (by omega) (by omega)
                  · skip
                    refine g_ldc2 (pc' := 163) (n := 31) hX dX1_checksum_160 q977 rfl rfl ?_
                    refine g_lload_n (pc' := 164) hX dX1_checksum_163 rfl rfl ?_
                    refine g_lmul (pc' := 165) hX dX1_checksum_164 rfl ?_
                    refine g_aload_n (pc' := 166) hX dX1_checksum_165 rfl rfl ?_
                    refine gf_X1_48 (pc' := 169) hX dX1_checksum_166 hV.h0 hV.hk rfl ?_
                    rw [hV.f 11 (by decide) (show xF 11 = 11 from rfl)]
                    refine g_iload (pc' := 171) hX dX1_checksum_169 rfl rfl ?_
                    refine g_ialdL (pc' := 172) hX dX1_checksum_171 (by have := hV.b0; omega) (hV.kk 11 (by decide) (show xK b 11 = 50 from rfl)) (hV.ln 11 (by decide) (show xL 11 = 7 from rfl)) (by omega) rfl ?_
                    rw [hF9 i2 i20 (by omega)]
                    have hf71 := hH.2.2.1.f7 (i := i2) ⟨i20, by omega⟩
                    refine g_i2l (pc' := 173) hX dX1_checksum_172 (by omega) rfl ?_
                    refine g_ladd (pc' := 174) hX dX1_checksum_173 rfl ?_
                    refine g_lstore_n_1 (pc' := 175) hX dX1_checksum_174 (by decide) rfl rfl ?_
                    refine g_iinc_4 (pc' := 178) hX dX1_checksum_175 (by decide) rfl rfl ?_
                    refine g_goto (tgt := 151) hX dX1_checksum_178 (by decide) ?_
                    have ex := ihb (i2 + 1) (by omega) (by omega) (by omega)
                    rw [hf_s (f := (fun i : Int => (((LK n m h).2.2.2.2.2.getD i.toNat 0 : Nat) : Int))) i20] at ex
                    exact ex
              exact GG_less (lb 100 0 (by omega) (by omega) (by omega)) (by omega) (by omega)
            · skip
              refine g_iconst (pc' := 97) hX dX1_checksum_96 rfl ?_
              refine g_istore_5 (pc' := 99) hX dX1_checksum_97 (by decide) rfl rfl ?_
              have la2 : ∀ (q : Nat) (j : Int), 0 ≤ j → j ≤ n → n < j + q → GG X 686 4655 u 99 [(1, xo), (2, hf ((tC m h) i) j.toNat (hf2 n.toNat (tC m h) i.toNat (ck0 n m h e.k))), (9, 0), (1, a5), (0, i), (0, j), x6, x7] [] := by
                intro q
                induction q with
                | zero => intro j _ _ hq; exact absurd hq (by omega)
                | succ q ih2 =>
                  intro j j0 j1 hq
                  refine g_iload (pc' := 101) hX dX1_checksum_99 rfl rfl ?_
                  refine g_aload_n (pc' := 102) hX dX1_checksum_101 rfl rfl ?_
                  refine gf_X1_7 (pc' := 105) hX dX1_checksum_102 hV.h0 hV.hk rfl ?_
                  rw [hS.1.2.2.1.1.1.1]
                  refine g_icmp_ge (pc' := 108) (tgt := 130) hX dX1_checksum_105 (by decide) rfl (by omega) (by omega) (fun h105 => ?_) (fun h105 => ?_)
                  · skip
                    refine g_iinc_4 (pc' := 133) hX dX1_checksum_130 (by decide) rfl rfl ?_
                    refine g_goto (tgt := 87) hX dX1_checksum_133 (by decide) ?_
                    have ex := ih1 (i + 1) (0, j) (by omega) (by omega) (by omega)
                    rw [hf2_s i0] at ex
                    rw [show j = n by omega]
                    rw [show j = n by omega] at ex
                    exact ex
                  · skip
                    refine g_ldc2 (pc' := 111) (n := 31) hX dX1_checksum_108 q977 rfl rfl ?_
                    refine g_lload_n (pc' := 112) hX dX1_checksum_111 rfl rfl ?_
                    refine g_lmul (pc' := 113) hX dX1_checksum_112 rfl ?_
                    refine g_aload_n (pc' := 114) hX dX1_checksum_113 rfl rfl ?_
                    refine g_iload (pc' := 116) hX dX1_checksum_114 rfl rfl ?_
                    refine g_iload (pc' := 118) hX dX1_checksum_116 rfl rfl ?_
                    refine gV2E0 (pc' := 121) hX dX1_checksum_118 ml_X1_204 gc_X1 hV.h0 hV.hk (c_k_costHere hV hS.1.2.2.1 (by omega) (by omega)) (Nat.le_of_ble_eq_true rfl) (by decide) rfl ?_
                    have hcb1 := hC i j i0 (by omega) j0 (by omega)
                    refine g_i2l (pc' := 122) hX dX1_checksum_121 (by omega) rfl ?_
                    refine g_ladd (pc' := 123) hX dX1_checksum_122 rfl ?_
                    refine g_lstore_n_1 (pc' := 124) hX dX1_checksum_123 (by decide) rfl rfl ?_
                    refine g_iinc_5 (pc' := 127) hX dX1_checksum_124 (by decide) rfl rfl ?_
                    refine g_goto (tgt := 99) hX dX1_checksum_127 (by decide) ?_
                    have ex := ih2 (j + 1) (by omega) (by omega) (by omega)
                    rw [hf_s j0] at ex
                    exact ex
              exact la2 100 0 (by omega) (by omega) (by omega)
        exact la1 100 0 _ (by omega) (by omega) (by omega)
      · skip
        refine g_aload (pc' := 63) hX dX1_checksum_61 rfl rfl ?_
        refine g_iload (pc' := 65) hX dX1_checksum_63 rfl rfl ?_
        refine g_ialdL (pc' := 66) hX dX1_checksum_65 (by have := hA5.2.1; omega) hA5.2.2.2.1 hA5.2.2.2.2 (by omega) rfl ?_
        have hvb : -1000000 ≤ rdw u a5 i ∧ rdw u a5 i ≤ 1000000 := by
          have h5 : i = 0 ∨ i = 1 ∨ i = 2 ∨ i = 3 ∨ i = 4 := by omega
          rcases h5 with z | z | z | z | z
          · rw [z, v4.1]; omega
          · rw [z, v4.2.1]; omega
          · rw [z, v4.2.2.1]; omega
          · rw [z, v4.2.2.2.1]; omega
          · rw [z, v4.2.2.2.2]; omega
        refine g_istore_7 (pc' := 68) hX dX1_checksum_66 (by decide) rfl rfl ?_
        refine g_ldc2 (pc' := 71) (n := 31) hX dX1_checksum_68 q977 rfl rfl ?_
        refine g_lload_n (pc' := 72) hX dX1_checksum_71 rfl rfl ?_
        refine g_lmul (pc' := 73) hX dX1_checksum_72 rfl ?_
        refine g_iload (pc' := 75) hX dX1_checksum_73 rfl rfl ?_
        refine g_i2l (pc' := 76) hX dX1_checksum_75 (by omega) rfl ?_
        refine g_ladd (pc' := 77) hX dX1_checksum_76 rfl ?_
        refine g_lstore_n_1 (pc' := 78) hX dX1_checksum_77 (by decide) rfl rfl ?_
        refine g_iinc_6 (pc' := 81) hX dX1_checksum_78 (by decide) rfl rfl ?_
        refine g_goto (tgt := 54) hX dX1_checksum_81 (by decide) ?_
        have ex := ih (i + 1) (0, rdw u a5 i) (by omega) (by omega) (by omega)
        rw [hf_s i0] at ex
        exact ex
  exact GG_less (loop 100 0 _ (by omega) (by omega) (by omega)) (by omega) (by omega)

end S12S
