/-! THE SOLVER'S ANSWERS: optimal assignments (by gen/spec_s7.py) -/
set_option maxRecDepth 100000
set_option maxHeartbeats 8000000
section R7
variable {X : Cx} {E : Ev} {own : String} {cc : ByteArray} {nL d bc bs : Nat} {w : Wd} {pc pc' : Nat} {lv : List (Nat × Int)} {st : List Value}
theorem g_ldcw {idx : Nat} {v : Int32} {n : Int} (h : Ok X E own cc nL d) (dg : decode cc pc = .ok (.ldc_w idx, 3)) (hq : Jvm.Cond.constant own idx v ∈ lw_all) (hv : v = Int32.ofInt n) (hp : pc + 3 = pc') (k : GG X bc bs w pc' lv (vI n :: st)) : GG X bc bs w pc lv (st) := by
  subst hp
  subst hv
  exact fun H locs ls cells slots a b c e f => lv_ldcw h.1 h.2.1 h.2.2.2.1 (h.2.2.2.2.1 _ hq) dg (k H locs ls cells slots a b c e f)
end R7
def iU (x y : Int) : Int := (((Int32.ofInt x).toUInt32 >>> ((Int32.ofInt y).toUInt32 &&& Int32.toUInt32 31)).toInt32).toInt
def iA (x y : Int) : Int := (Int32.ofInt x &&& Int32.ofInt y).toInt
theorem iU_ok (x y : Int) : ((Int32.ofInt x).toUInt32 >>> ((Int32.ofInt y).toUInt32 &&& Int32.toUInt32 31)).toInt32 = Int32.ofInt (iU x y) := (Int32.ofInt_toInt _).symm
theorem iA_ok (x y : Int) : Int32.ofInt x &&& Int32.ofInt y = Int32.ofInt (iA x y) := (Int32.ofInt_toInt _).symm
/-- how many bits -/
def pcn (s : Nat) : Nat := s % 2 + s / 2 % 2 + s / 4 % 2 + s / 8 % 2 + s / 16 % 2 + s / 32 % 2 + s / 64 % 2
def bcA (s : Int) : Int := s - iA (iU s 1) 1431655765
def bcB (s : Int) : Int := iA s 858993459 + iA (iU s 2) 858993459
def bcC (s : Int) : Int := iA (s + iU s 4) 252645135
def bcD (s : Int) : Int := s + iU s 8
def bcE (s : Int) : Int := s + iU s 16
theorem bcn : ∀ s < 128, iA (bcE (bcD (bcC (bcB (bcA ((s : Nat) : Int)))))) 63 = ((pcn s : Nat) : Int) := by decide +kernel
theorem pcn_or : ∀ s < 128, ∀ j < 7, s >>> j % 2 = 0 → s < (s ||| 1 <<< j) ∧ pcn (s ||| 1 <<< j) = pcn s + 1 := by decide +kernel
theorem or_lt2 : ∀ N < 8, ∀ s < 128, ∀ j < 7, s < 2 ^ N → j < N → (s ||| 1 <<< j) < 2 ^ N := by decide +kernel
theorem pcn_lt : ∀ N < 8, ∀ s < 128, s + 1 < 2 ^ N → pcn s < N := by decide +kernel
theorem pcn_all : ∀ N < 8, pcn (2 ^ N - 1) = N ∧ 1 <<< N = 2 ^ N ∧ 1 ≤ 2 ^ N ∧ 2 ^ N ≤ 128 := by decide +kernel
def ctF (N r s : Nat) (R : Int → Int → Int) (j : Int) : Int := if s >>> j.toNat % 2 = 0 ∧ R ((N : Int) - ((r : Int) + 1)) j ≤ 0 then cW N R r (s ||| 1 <<< j.toNat) (0 - R ((N : Int) - ((r : Int) + 1)) j) else 0
section S7S
variable {X : Cx} {bc bs pc : Nat} {lv : List (Nat × Int)} {st : List Value} {E : Ev} {w w0 u u' : Wd} {P : Int → Int → Prop} {T r c n m sn sm l i j k v a z xo b it x y sz fd far q row base : Int} {h h' sh C C0 R : Int → Int → Int} {f g : Int → Int} {e : En} {S : Int → Prop} {s : Nat}
theorem bt_shr {hs : s < 128} (hj : 0 ≤ j ∧ j < 7) : Int32.ofInt (s : Int) >>> (Int32.ofInt j &&& 31) = Int32.ofInt ((s >>> j.toNat : Nat) : Int) := by
  have := b_shr s hs j.toNat (by omega)
  rw [Int.toNat_of_nonneg hj.1] at this
  exact this
theorem bt_shl (hj : 0 ≤ j ∧ j < 8) : Int32.ofInt 1 <<< (Int32.ofInt j &&& 31) = Int32.ofInt ((1 <<< j.toNat : Nat) : Int) := by
  have := b_shl1 j.toNat (by omega)
  rw [Int.toNat_of_nonneg hj.1] at this
  exact this
theorem c_j_bitCount (hs : s < 128) : Call E mJ4_bitCount 0 0 0 [vI (s : Int)] w (qE ((pcn s : Nat) : Int) w) := by
  refine call_of (av := [(0, (s : Int))]) (by decide +kernel) rfl (Nat.le_of_ble_eq_true rfl) ?_
  intro X hX hF hname
  show GG X 0 0 w 0 [(0, (s : Int))] []
  refine g_iload_n (pc' := 1) hX dJ4_bitCount_0 rfl rfl ?_
  refine g_iload_n (pc' := 2) hX dJ4_bitCount_1 rfl rfl ?_
  refine g_iconst (pc' := 3) hX dJ4_bitCount_2 rfl ?_
  refine g_iushr (pc' := 4) (_) hX dJ4_bitCount_3 (iU_ok _ _) rfl ?_
  refine g_ldcw (pc' := 7) (n := 1431655765) hX dJ4_bitCount_4 q906 rfl rfl ?_
  refine g_iand (pc' := 8) (_) hX dJ4_bitCount_7 (iA_ok _ _) rfl ?_
  refine g_isub (pc' := 9) hX dJ4_bitCount_8 rfl ?_
  refine g_istore_n_0 (pc' := 10) hX dJ4_bitCount_9 (by decide) rfl rfl ?_
  refine g_iload_n (pc' := 11) hX dJ4_bitCount_10 rfl rfl ?_
  refine g_ldcw (pc' := 14) (n := 858993459) hX dJ4_bitCount_11 q907 rfl rfl ?_
  refine g_iand (pc' := 15) (_) hX dJ4_bitCount_14 (iA_ok _ _) rfl ?_
  refine g_iload_n (pc' := 16) hX dJ4_bitCount_15 rfl rfl ?_
  refine g_iconst (pc' := 17) hX dJ4_bitCount_16 rfl ?_
  refine g_iushr (pc' := 18) (_) hX dJ4_bitCount_17 (iU_ok _ _) rfl ?_
  refine g_ldcw (pc' := 21) (n := 858993459) hX dJ4_bitCount_18 q907 rfl rfl ?_
  refine g_iand (pc' := 22) (_) hX dJ4_bitCount_21 (iA_ok _ _) rfl ?_
  refine g_iadd (pc' := 23) hX dJ4_bitCount_22 rfl ?_
  refine g_istore_n_0 (pc' := 24) hX dJ4_bitCount_23 (by decide) rfl rfl ?_
  refine g_iload_n (pc' := 25) hX dJ4_bitCount_24 rfl rfl ?_
  refine g_iload_n (pc' := 26) hX dJ4_bitCount_25 rfl rfl ?_
  refine g_iconst (pc' := 27) hX dJ4_bitCount_26 rfl ?_
  refine g_iushr (pc' := 28) (_) hX dJ4_bitCount_27 (iU_ok _ _) rfl ?_
  refine g_iadd (pc' := 29) hX dJ4_bitCount_28 rfl ?_
  refine g_ldcw (pc' := 32) (n := 252645135) hX dJ4_bitCount_29 q908 rfl rfl ?_
  refine g_iand (pc' := 33) (_) hX dJ4_bitCount_32 (iA_ok _ _) rfl ?_
  refine g_istore_n_0 (pc' := 34) hX dJ4_bitCount_33 (by decide) rfl rfl ?_
  refine g_iload_n (pc' := 35) hX dJ4_bitCount_34 rfl rfl ?_
  refine g_iload_n (pc' := 36) hX dJ4_bitCount_35 rfl rfl ?_
  refine g_bipush (pc' := 38) hX dJ4_bitCount_36 rfl rfl ?_
  refine g_iushr (pc' := 39) (_) hX dJ4_bitCount_38 (iU_ok _ _) rfl ?_
  refine g_iadd (pc' := 40) hX dJ4_bitCount_39 rfl ?_
  refine g_istore_n_0 (pc' := 41) hX dJ4_bitCount_40 (by decide) rfl rfl ?_
  refine g_iload_n (pc' := 42) hX dJ4_bitCount_41 rfl rfl ?_
  refine g_iload_n (pc' := 43) hX dJ4_bitCount_42 rfl rfl ?_
  refine g_bipush (pc' := 45) hX dJ4_bitCount_43 rfl rfl ?_
  refine g_iushr (pc' := 46) (_) hX dJ4_bitCount_45 (iU_ok _ _) rfl ?_
  refine g_iadd (pc' := 47) hX dJ4_bitCount_46 rfl ?_
  refine g_istore_n_0 (pc' := 48) hX dJ4_bitCount_47 (by decide) rfl rfl ?_
  refine g_iload_n (pc' := 49) hX dJ4_bitCount_48 rfl rfl ?_
  refine g_bipush (pc' := 51) hX dJ4_bitCount_49 rfl rfl ?_
  refine g_iand (pc' := 52) (_) hX dJ4_bitCount_51 (iA_ok _ _) rfl ?_
  exact g_retE hX hF dJ4_bitCount_52 (bcn s hs) rfl

theorem c_s_countOptimal (hH : XX E xo b n m h sn sm sh e w) (h6w : rdw w xo 6 = n) (hR : ∀ i j : Int, 0 ≤ i → i < n → 0 ≤ j → j < n → rdw w (b + 1 + i) j - rdw w (b + 8) i - rdw w (b + 9) j = R i j) (hRb : ∀ i j : Int, 0 ≤ i → i < n → 0 ≤ j → j < n → 0 ≤ R i j ∧ R i j ≤ 1000000) : Call E mX1_countOptimal 2 0 0 [vR xo] w (qU (fun w' => SB E xo b n m h sn sm sh e w w' ∧ rdw w' xo 6 = n ∧ (∀ k q : Int, k ≠ 18 → rdw w' (b + k) q = rdw w (b + k) q) ∧ ∀ s : Nat, s < 2 ^ n.toNat → rdw w' (b + 18) s = cW n.toNat R (n.toNat - pcn s) s 0)) := by
  refine call_of (av := [(1, xo)]) (by decide +kernel) rfl (Nat.le_of_ble_eq_true rfl) ?_
  intro X hX hF hname
  show GG X 0 0 w 0 [(1, xo), (9, 0), (9, 0), (9, 0), (9, 0), (9, 0), (9, 0)] []
  have hS := SB.rf hH
  have hV := hH.1
  have hn := hH.2.2.1.1.2.1
  obtain ⟨N, hN⟩ : ∃ N : Nat, n = N := ⟨n.toNat, by omega⟩
  have hNt : n.toNat = N := by omega
  have hNb : 1 ≤ N ∧ N ≤ 7 := by omega
  obtain ⟨pa1, pa2, pa3, pa4⟩ := pcn_all N (by omega)
  have h6 := h6w
  have hk0 : ∀ k q : Int, k ≠ 18 → rdw w (b + k) q = rdw w (b + k) q := fun _ _ _ => rfl
  rw [hNt] at hF
  obtain ⟨Q, hQ⟩ : ∃ Q, Q = 2 ^ N := ⟨_, rfl⟩
  rw [← hQ] at hF pa1 pa2 pa3 pa4
  refine g_iconst (pc' := 1) hX dX1_countOptimal_0 rfl ?_
  refine g_aload_n (pc' := 2) hX dX1_countOptimal_1 rfl rfl ?_
  refine gf_X1_237 (pc' := 5) hX dX1_countOptimal_2 hV.h0 hV.hk rfl ?_
  rw [h6]
  skip
  refine g_ishl (pc' := 6) (((Q : Nat) : Int)) hX dX1_countOptimal_5 (by have := bt_shl (j := n) (by omega); rw [hNt, pa2] at this; exact this) rfl ?_
  refine g_iconst (pc' := 7) hX dX1_countOptimal_6 rfl ?_
  refine g_isub (pc' := 8) hX dX1_countOptimal_7 rfl ?_
  refine g_istore_n_1 (pc' := 9) hX dX1_countOptimal_8 (by decide) rfl rfl ?_
  refine g_aload_n (pc' := 10) hX dX1_countOptimal_9 rfl rfl ?_
  refine gf_X1_73 (pc' := 13) hX dX1_countOptimal_10 hV.h0 hV.hk rfl ?_
  rw [hV.f 17 (by decide) (show xF 17 = 18 from rfl)]
  refine g_iload_n (pc' := 14) hX dX1_countOptimal_13 rfl rfl ?_
  refine g_iconst (pc' := 15) hX dX1_countOptimal_14 rfl ?_
  refine g_iastL (pc' := 16) hX dX1_countOptimal_15 (by have := hV.hbb; omega) (hV.kk 18 (by decide) (show xK b 18 = 50 from rfl)) (hV.ln 18 (by decide) (show xL 18 = 128 from rfl)) (by omega) rfl ?_
  refine hS.up 18 (by omega) (fun u0 hS g0 h60 => ?_)
  have hV := hS.1.1
  have h6 := h60.trans h6
  refine g_iload_n (pc' := 17) hX dX1_countOptimal_16 rfl rfl ?_
  refine g_iconst (pc' := 18) hX dX1_countOptimal_17 rfl ?_
  refine g_isub (pc' := 19) hX dX1_countOptimal_18 rfl ?_
  refine g_istore_n_2 (pc' := 20) hX dX1_countOptimal_19 (by decide) rfl rfl ?_
  have loop : ∀ (f : Nat) (z : Int) (u : Wd) (x3 x4 x5 x6 : Nat × Int), -1 ≤ z → z < (Q : Int) - 1 → SB E xo b n m h sn sm sh e w u → rdw u xo 6 = n → (∀ k q : Int, k ≠ 18 → rdw u (b + k) q = rdw w (b + k) q) → (∀ s : Nat, s < Q → z < s → rdw u (b + 18) s = cW N R (N - pcn s) s 0) → z + 1 < f → GG X 0 0 u 20 [(1, xo), (0, ((Q : Nat) : Int) - 1), (0, z), x3, x4, x5, x6] [] := by
    intro f
    induction f with
    | zero => intro z u x3 x4 x5 x6 z0 z1 hS h6 hk hA hf; exact absurd hf (by omega)
    | succ f ih =>
      intro z u x3 x4 x5 x6 z0 z1 hS h6 hk hA hf
      have hV := hS.1.1
      refine g_iload_n (pc' := 21) hX dX1_countOptimal_20 rfl rfl ?_
      refine g_if_lt (pc' := 24) (tgt := 115) hX dX1_countOptimal_21 (by decide) rfl (by omega) (fun h21 => ?_) (fun h21 => ?_)
      · skip
        exact g_retU hX hF dX1_countOptimal_115 ⟨hS, h6, hk, fun s hs => hA s hs (by omega)⟩
      · skip
        obtain ⟨s, rfl⟩ : ∃ s : Nat, z = s := ⟨z.toNat, by omega⟩
        have hs : s < 128 := by omega
        have hpl := pcn_lt N (by omega) s hs (by rw [← hQ]; omega)
        have hrow : (N : Int) - (((N - pcn s - 1 : Nat) : Int) + 1) = (pcn s : Nat) := by omega
        have hRu : ∀ i j : Int, 0 ≤ i → i < n → 0 ≤ j → j < n → rdw u (b + 1 + i) j - rdw u (b + 8) i - rdw u (b + 9) j = R i j := fun i j i0 i1 j0 j1 => by
          have e1 := hk (1 + i) j (by omega)
          rw [show b + (1 + i) = b + 1 + i by omega] at e1
          rw [e1, hk 8 i (by omega), hk 9 j (by omega)]; exact hR i j i0 i1 j0 j1
        refine g_iload_n (pc' := 25) hX dX1_countOptimal_24 rfl rfl ?_
        refine gS1E0 (pc' := 28) hX dX1_countOptimal_25 ml_X1_281 (c_j_bitCount hs) (Nat.le_of_ble_eq_true rfl) (by decide) rfl ?_
        refine g_istore_n_3 (pc' := 29) hX dX1_countOptimal_28 (by decide) rfl rfl ?_
        refine g_iconst (pc' := 30) hX dX1_countOptimal_29 rfl ?_
        refine g_istore_4 (pc' := 32) hX dX1_countOptimal_30 (by decide) rfl rfl ?_
        refine g_iconst (pc' := 33) hX dX1_countOptimal_32 rfl ?_
        refine g_istore_5 (pc' := 35) hX dX1_countOptimal_33 (by decide) rfl rfl ?_
        have loop2 : ∀ (f : Nat) (j : Int) (x6 : Nat × Int), 0 ≤ j → j ≤ n → n < j + f → GG X 0 0 u 35 [(1, xo), (0, ((Q : Nat) : Int) - 1), (0, (s : Int)), (0, ((pcn s : Nat) : Int)), (0, sm' j.toNat (ctF N (N - pcn s - 1) s R)), (0, j), x6] [] := by
          intro f
          induction f with
          | zero => intro j x6 j0 j1 hf; exact absurd hf (by omega)
          | succ f ih2 =>
            intro j x6 j0 j1 hf
            refine g_iload (pc' := 37) hX dX1_countOptimal_35 rfl rfl ?_
            refine g_aload_n (pc' := 38) hX dX1_countOptimal_37 rfl rfl ?_
            refine gf_X1_237 (pc' := 41) hX dX1_countOptimal_38 hV.h0 hV.hk rfl ?_
            rw [h6]
            refine g_icmp_ge (pc' := 44) (tgt := 101) hX dX1_countOptimal_41 (by decide) rfl (by omega) (by omega) (fun h41 => ?_) (fun h41 => ?_)
            · skip
              have hdone : sm' j.toNat (ctF N (N - pcn s - 1) s R) = cW N R (N - pcn s) s 0 := by
                rw [show j = n by omega, hNt, show N - pcn s = (N - pcn s - 1) + 1 by omega]; rfl
              refine g_aload_n (pc' := 102) hX dX1_countOptimal_101 rfl rfl ?_
              refine gf_X1_73 (pc' := 105) hX dX1_countOptimal_102 hV.h0 hV.hk rfl ?_
              rw [hV.f 17 (by decide) (show xF 17 = 18 from rfl)]
              refine g_iload_n (pc' := 106) hX dX1_countOptimal_105 rfl rfl ?_
              refine g_iload (pc' := 108) hX dX1_countOptimal_106 rfl rfl ?_
              refine g_iastL (pc' := 109) hX dX1_countOptimal_108 (by have := hV.hbb; omega) (hV.kk 18 (by decide) (show xK b 18 = 50 from rfl)) (hV.ln 18 (by decide) (show xL 18 = 128 from rfl)) (by omega) rfl ?_
              refine hS.up 18 (by omega) (fun u2 hS g2 h62 => ?_)
              refine g_iinc_2 (pc' := 112) hX dX1_countOptimal_109 (by decide) rfl rfl ?_
              refine g_goto (tgt := 20) hX dX1_countOptimal_112 (by decide) ?_
              refine ih ((s : Int) + -1) u2 _ _ _ _ (by omega) (by omega) hS (h62.trans h6) (fun k q hk18 => by rw [g2 k q, if_neg (fun z => hk18 z.1)]; exact hk k q hk18) (fun t t1 t2 => ?_) (by omega)
              rw [g2 18 t]
              by_cases ht : (t : Int) = s
              · rw [if_pos ⟨rfl, ht⟩, show t = s by omega, hdone]
              · rw [if_neg (fun z => ht z.2)]; exact hA t t1 (by omega)
            · skip
              have hRj := hRb (pcn s : Nat) j (by omega) (by omega) j0 (by omega)
              
              refine g_iload_n (pc' := 45) hX dX1_countOptimal_44 rfl rfl ?_
              refine g_iload (pc' := 47) hX dX1_countOptimal_45 rfl rfl ?_
              refine g_ishr (pc' := 48) (((s >>> j.toNat : Nat) : Int)) hX dX1_countOptimal_47 (bt_shr (hs := hs) (by omega)) rfl ?_
              refine g_iconst (pc' := 49) hX dX1_countOptimal_48 rfl ?_
              refine g_iand (pc' := 50) (((s >>> j.toNat % 2 : Nat) : Int)) hX dX1_countOptimal_49 (b_and1' (b_shr_lt s hs j.toNat (by omega))) rfl ?_
              refine g_if_ne (pc' := 53) (tgt := 67) hX dX1_countOptimal_50 (by decide) rfl (by omega) (fun h50 => ?_) (fun h50 => ?_)
              · skip
                have hF : ctF N (N - pcn s - 1) s R j = 0 := if_neg (fun z => by have := z.1; omega)
                refine g_iconst (pc' := 68) hX dX1_countOptimal_67 rfl ?_
                refine g_istore_6 (pc' := 70) hX dX1_countOptimal_68 (by decide) rfl rfl ?_
                refine g_iload (pc' := 72) hX dX1_countOptimal_70 rfl rfl ?_
                refine g_iload (pc' := 74) hX dX1_countOptimal_72 rfl rfl ?_
                refine g_if_eq (pc' := 77) (tgt := 91) hX dX1_countOptimal_74 (by decide) rfl (by omega) (fun h74 => ?_) (fun h74 => absurd h74 (by omega))
                refine g_iconst (pc' := 92) hX dX1_countOptimal_91 rfl ?_
                refine g_iadd (pc' := 93) hX dX1_countOptimal_92 rfl ?_
                refine g_istore_4 (pc' := 95) hX dX1_countOptimal_93 (by decide) rfl rfl ?_
                refine g_iinc_5 (pc' := 98) hX dX1_countOptimal_95 (by decide) rfl rfl ?_
                refine g_goto (tgt := 35) hX dX1_countOptimal_98 (by decide) ?_
                have e := fun x6 => ih2 (j + 1) x6 (by omega) (by omega) (by omega)
                rw [sm_i j0, hF] at e
                exact e _
              · skip
                have hb0 : s >>> j.toNat % 2 = 0 := by omega
                refine g_aload_n (pc' := 54) hX dX1_countOptimal_53 rfl rfl ?_
                refine g_iload_n (pc' := 55) hX dX1_countOptimal_54 rfl rfl ?_
                refine g_iload (pc' := 57) hX dX1_countOptimal_55 rfl rfl ?_
                refine gV2E0 (pc' := 60) hX dX1_countOptimal_57 ml_X1_262 gc_X1 hV.h0 hV.hk (c_s_reducedHere hV (by omega) (by omega)) (Nat.le_of_ble_eq_true rfl) (by decide) rfl ?_
                rw [hRu _ j (by omega) (by omega) j0 (by omega)]
                refine g_if_ne (pc' := 63) (tgt := 67) hX dX1_countOptimal_60 (by decide) rfl (by omega) (fun h60 => ?_) (fun h60 => ?_)
                · skip
                  have hF : ctF N (N - pcn s - 1) s R j = 0 := by
                    unfold ctF
                    rw [hrow]
                    exact if_neg (fun z => by have := z.2; omega)
                  refine g_iconst (pc' := 68) hX dX1_countOptimal_67 rfl ?_
                  refine g_istore_6 (pc' := 70) hX dX1_countOptimal_68 (by decide) rfl rfl ?_
                  refine g_iload (pc' := 72) hX dX1_countOptimal_70 rfl rfl ?_
                  refine g_iload (pc' := 74) hX dX1_countOptimal_72 rfl rfl ?_
                  refine g_if_eq (pc' := 77) (tgt := 91) hX dX1_countOptimal_74 (by decide) rfl (by omega) (fun h74 => ?_) (fun h74 => absurd h74 (by omega))
                  refine g_iconst (pc' := 92) hX dX1_countOptimal_91 rfl ?_
                  refine g_iadd (pc' := 93) hX dX1_countOptimal_92 rfl ?_
                  refine g_istore_4 (pc' := 95) hX dX1_countOptimal_93 (by decide) rfl rfl ?_
                  refine g_iinc_5 (pc' := 98) hX dX1_countOptimal_95 (by decide) rfl rfl ?_
                  refine g_goto (tgt := 35) hX dX1_countOptimal_98 (by decide) ?_
                  have e := fun x6 => ih2 (j + 1) x6 (by omega) (by omega) (by omega)
                  rw [sm_i j0, hF] at e
                  exact e _
                · skip
                  have hpo := pcn_or s hs j.toNat (by omega) hb0
                  have hol := or_lt2 N (by omega) s hs j.toNat (by omega) (by rw [← hQ]; omega) (by omega)
                  rw [← hQ] at hol
                  have hR0 : R (pcn s : Nat) j = 0 := by omega
                  have hF : ctF N (N - pcn s - 1) s R j = rdw u (b + 18) ((s ||| 1 <<< j.toNat : Nat) : Int) := by
                    unfold ctF
                    rw [hrow, hR0, if_pos ⟨hb0, Int.le_refl _⟩, Int.sub_self, hA _ hol (by omega), hpo.2]
                    rfl
                  refine g_iconst (pc' := 64) hX dX1_countOptimal_63 rfl ?_
                  refine g_goto (tgt := 68) hX dX1_countOptimal_64 (by decide) ?_
                  refine g_istore_6 (pc' := 70) hX dX1_countOptimal_68 (by decide) rfl rfl ?_
                  refine g_iload (pc' := 72) hX dX1_countOptimal_70 rfl rfl ?_
                  refine g_iload (pc' := 74) hX dX1_countOptimal_72 rfl rfl ?_
                  refine g_if_eq (pc' := 77) (tgt := 91) hX dX1_countOptimal_74 (by decide) rfl (by omega) (fun h74 => absurd h74 (by omega)) (fun h74 => ?_)
                  refine g_aload_n (pc' := 78) hX dX1_countOptimal_77 rfl rfl ?_
                  refine gf_X1_73 (pc' := 81) hX dX1_countOptimal_78 hV.h0 hV.hk rfl ?_
                  rw [hV.f 17 (by decide) (show xF 17 = 18 from rfl)]
                  refine g_iload_n (pc' := 82) hX dX1_countOptimal_81 rfl rfl ?_
                  refine g_iconst (pc' := 83) hX dX1_countOptimal_82 rfl ?_
                  refine g_iload (pc' := 85) hX dX1_countOptimal_83 rfl rfl ?_
                  refine g_ishl (pc' := 86) (((1 <<< j.toNat : Nat) : Int)) hX dX1_countOptimal_85 (bt_shl (by omega)) rfl ?_
                  refine g_ior (pc' := 87) (((s ||| 1 <<< j.toNat : Nat) : Int)) hX dX1_countOptimal_86 (b_or s hs j.toNat (by omega)) rfl ?_
                  refine g_ialdL (pc' := 88) hX dX1_countOptimal_87 (by have := hV.b0; omega) (hV.kk 18 (by decide) (show xK b 18 = 50 from rfl)) (hV.ln 18 (by decide) (show xL 18 = 128 from rfl)) (by have := b_or_lt s hs j.toNat (by omega); omega) rfl ?_
                  skip
                  refine g_goto (tgt := 92) hX dX1_countOptimal_88 (by decide) ?_
                  refine g_iadd (pc' := 93) hX dX1_countOptimal_92 rfl ?_
                  refine g_istore_4 (pc' := 95) hX dX1_countOptimal_93 (by decide) rfl rfl ?_
                  refine g_iinc_5 (pc' := 98) hX dX1_countOptimal_95 (by decide) rfl rfl ?_
                  refine g_goto (tgt := 35) hX dX1_countOptimal_98 (by decide) ?_
                  have e := fun x6 => ih2 (j + 1) x6 (by omega) (by omega) (by omega)
                  rw [sm_i j0, hF] at e
                  exact e _
        exact loop2 100 0 _ (by omega) (by omega) (by omega)
  exact loop (Q + 1) _ u0 _ _ _ _ (by omega) (by omega) hS h6 (fun k q hk18 => by rw [g0 k q, if_neg (fun z => hk18 z.1)]) (fun t t1 t2 => by
    rw [g0 18 t, if_pos ⟨rfl, by omega⟩, show t = Q - 1 by omega, pa1, Nat.sub_self]; rfl) (by omega)

end S7S
