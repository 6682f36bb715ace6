/-! ANSWERS: counts within a limit, sums of codes, steps (by gen/spec_s11.py) -/
set_option maxRecDepth 100000
set_option maxHeartbeats 8000000
def ctG (N r s : Nat) (C : Int → Int → Int) (a j : Int) : Int := if s >>> j.toNat % 2 = 0 ∧ C ((N : Int) - ((r : Int) + 1)) j ≤ a then cW N C r (s ||| 1 <<< j.toNat) (a - C ((N : Int) - ((r : Int) + 1)) j) else 0
def CuT (xo n : Int) (e : En) (w : Wd) : Prop := ∃ τ ∈ pmN n.toNat, rdw w xo 25 = cd 0 τ ∧ ∀ i : Int, 0 ≤ i → i < n → e.cu i = (τ.getD i.toNat 0 : Nat)
section S11S
variable {X : Cx} {bc bs pc : Nat} {lv : List (Nat × Int)} {st : List Value} {E : Ev} {w w0 u u' : Wd} {P : Int → Int → Prop} {T r c n m sn sm l i j k v a z xo b it x y sz fd far q row base L : Int} {h h' sh C C0 R : Int → Int → Int} {f g : Int → Int} {e : En} {S : Int → Prop} {s N : Nat}
theorem soF_s {t : Nat} (h0 : 0 ≤ l) (k : Nat) : soF n m h (k + 1) l t z = if (0 ≤ l % 10 - 1 ∧ l % 10 - 1 ≤ n - 1) ∧ t >>> (l % 10 - 1).toNat % 2 = 0 then soF n m h k (l / 10) (t ||| 1 <<< (l % 10 - 1).toNat) (z + tC m h k (l % 10 - 1)) else (-1, z) := by
  show (if (0 ≤ l.tmod 10 - 1 ∧ l.tmod 10 - 1 ≤ n - 1) ∧ _ then _ else _) = _
  rw [Int.tmod_eq_emod_of_nonneg h0, Int.tdiv_eq_ediv_of_nonneg h0]
theorem soF_neg (hn : 1 ≤ n) (ha : l ≤ 0) : (soF n m h n.toNat l 0 0).1 = -1 := by
  rw [show n.toNat = (n.toNat - 1) + 1 by omega]
  unfold soF
  rw [if_neg (fun z => by have := tm_pos z.1.1; omega)]
theorem cd_take {τ : List Nat} {i : Nat} (hi : i < τ.length) (hτ : ∀ x ∈ τ, x < 9) : cd 0 (τ.take (i + 1)) / 10 = cd 0 (τ.take i) ∧ cd 0 (τ.take (i + 1)) % 10 - 1 = (τ.getD i 0 : Nat) := by
  have e : τ.take (i + 1) = τ.take i ++ [τ.getD i 0] := by
    rw [List.take_succ, List.getElem?_eq_getElem hi, List.getD_eq_getElem?_getD, List.getElem?_eq_getElem hi]; rfl
  have hx : τ.getD i 0 < 9 := hτ _ (by rw [List.getD_eq_getElem?_getD, List.getElem?_eq_getElem hi]; exact List.getElem_mem _)
  rw [e, cd_app]
  show (10 * cd 0 (τ.take i) + _ + 1) / 10 = _ ∧ (10 * cd 0 (τ.take i) + _ + 1) % 10 - 1 = _
  omega
theorem cd_tb {τ : List Nat} (hτ : ∀ x ∈ τ, x < 9) : ∀ i : Nat, i ≤ τ.length → 0 ≤ cd 0 (τ.take i) ∧ cd 0 (τ.take i) < 10 ^ i
  | 0, _ => by
    rw [List.take_zero]
    show 0 ≤ (0 : Int) ∧ (0 : Int) < 10 ^ 0
    decide
  | i + 1, hi => by
    have h1 := cd_tb hτ i (by omega)
    have h2 := cd_take (τ := τ) (i := i) (by omega) hτ
    have hx : τ.getD i 0 < 9 := hτ _ (by rw [List.getD_eq_getElem?_getD, List.getElem?_eq_getElem (show i < τ.length by omega)]; exact List.getElem_mem _)
    rw [Int.pow_succ]
    omega
theorem c_s_countFrom1 (hH : XX E xo b n m h sn sm sh e w) (hN : n = (N : Int)) (hA : ∀ i j : Int, 0 ≤ i → i < n → 0 ≤ j → j < n → rdw w (b + 1 + i) j = C i j) (hC : ∀ i j : Int, 0 ≤ i → i < n → 0 ≤ j → j < n → 0 ≤ C i j ∧ C i j ≤ 1000) {rr : Nat} (IH : ∀ r' : Nat, r' < rr → ∀ (s : Nat) (a : Int), s < 128 → r' ≤ N → 0 ≤ a → a ≤ 7000 → Call E mX1_countFrom r' 0 0 [vR xo, vI ((N : Int) - (r' : Nat)), vI (s : Nat), vI a] w (qE (cW N C r' s a) w)) (hs : s < 128) (hr : rr ≤ N) (ha : 0 ≤ a ∧ a ≤ 7000) : Call E mX1_countFrom rr 0 0 [vR xo, vI ((N : Int) - (rr : Nat)), vI (s : Nat), vI a] w (qE (cW N C rr s a) w) := by
  refine call_of (av := [(1, xo), (0, ((N : Int) - (rr : Nat))), (0, (s : Nat)), (0, a)]) (by decide +kernel) rfl (Nat.le_of_ble_eq_true rfl) ?_
  intro X hX hF hname
  show GG X 0 0 w 0 [(1, xo), (0, ((N : Int) - (rr : Nat))), (0, (s : Nat)), (0, a), (9, 0), (9, 0)] []
  have hV := hH.1
  have hf0 := hH.2.2.1.1.1.1
  have hn := hH.2.2.1.1.2.1
  have hNb : 1 ≤ N ∧ N ≤ 7 := by omega
  refine g_iload_n (pc' := 1) hX dX1_countFrom_0 rfl rfl ?_
  refine g_aload_n (pc' := 2) hX dX1_countFrom_1 rfl rfl ?_
  refine gf_X1_7 (pc' := 5) hX dX1_countFrom_2 hV.h0 hV.hk rfl ?_
  rw [hf0]
  refine g_icmp_ne (pc' := 8) (tgt := 10) hX dX1_countFrom_5 (by decide) rfl (by omega) (by omega) (fun h5 => ?_) (fun h5 => ?_)
  · skip
    obtain ⟨R1, rfl⟩ : ∃ R1, rr = R1 + 1 := ⟨rr - 1, by omega⟩
    have hrow : (N : Int) - ((R1 + 1 : Nat) : Int) = (N : Int) - ((R1 : Int) + 1) := by omega
    refine g_iconst (pc' := 11) hX dX1_countFrom_10 rfl ?_
    refine g_istore_4 (pc' := 13) hX dX1_countFrom_11 (by decide) rfl rfl ?_
    refine g_iconst (pc' := 14) hX dX1_countFrom_13 rfl ?_
    refine g_istore_5 (pc' := 16) hX dX1_countFrom_14 (by decide) rfl rfl ?_
    have loop : ∀ (f : Nat) (j : Int), 0 ≤ j → j ≤ n → n < j + f → GG X 0 0 w 16 [(1, xo), (0, (N : Int) - ((R1 + 1 : Nat) : Int)), (0, (s : Int)), (0, a), (0, sm' j.toNat (ctG N R1 s C a)), (0, j)] [] := by
      intro f
      induction f with
      | zero => intro j j0 j1 hf; exact absurd hf (by omega)
      | succ f ih =>
        intro j j0 j1 hf
        refine g_iload (pc' := 18) hX dX1_countFrom_16 rfl rfl ?_
        refine g_aload_n (pc' := 19) hX dX1_countFrom_18 rfl rfl ?_
        refine gf_X1_7 (pc' := 22) hX dX1_countFrom_19 hV.h0 hV.hk rfl ?_
        rw [hf0]
        refine g_icmp_ge (pc' := 25) (tgt := 82) hX dX1_countFrom_22 (by decide) rfl (by omega) (by omega) (fun h22 => ?_) (fun h22 => ?_)
        · skip
          refine g_iload (pc' := 84) hX dX1_countFrom_82 rfl rfl ?_
          exact g_retE hX hF dX1_countFrom_84 (by rw [show j = n by omega, hN, Int.toNat_natCast]; rfl) rfl
        · skip
          have hCj := hC ((N : Int) - ((R1 + 1 : Nat) : Int)) j (by omega) (by omega) j0 (by omega)
          refine g_iload_n (pc' := 26) hX dX1_countFrom_25 rfl rfl ?_
          refine g_iload (pc' := 28) hX dX1_countFrom_26 rfl rfl ?_
          refine g_ishr (pc' := 29) (((s >>> j.toNat : Nat) : Int)) hX dX1_countFrom_28 (bt_shr (hs := hs) (by omega)) rfl ?_
          refine g_iconst (pc' := 30) hX dX1_countFrom_29 rfl ?_
          refine g_iand (pc' := 31) (((s >>> j.toNat % 2 : Nat) : Int)) hX dX1_countFrom_30 (b_and1' (b_shr_lt s hs j.toNat (by omega))) rfl ?_
          refine g_if_ne (pc' := 34) (tgt := 76) hX dX1_countFrom_31 (by decide) rfl (by omega) (fun h31 => ?_) (fun h31 => ?_)
          · skip
            have hF1 : ctG N R1 s C a j = 0 := if_neg (fun z => by have := z.1; omega)
            refine g_iinc_5 (pc' := 79) hX dX1_countFrom_76 (by decide) rfl rfl ?_
            refine g_goto (tgt := 16) hX dX1_countFrom_79 (by decide) ?_
            have e := ih (j + 1) (by omega) (by omega) (by omega)
            rw [sm_i j0, hF1] at e
            first
              | exact e
              | (rw [Int.add_zero] at e; exact e)
          · skip
            refine g_aload_n (pc' := 35) hX dX1_countFrom_34 rfl rfl ?_
            refine gf_X1_35 (pc' := 38) hX dX1_countFrom_35 hV.h0 hV.hk rfl ?_
            rw [hV.f 7 (by decide) (show xF 7 = 0 from rfl)]
            refine g_iload_n (pc' := 39) hX dX1_countFrom_38 rfl rfl ?_
            refine g_aaldL (pc' := 40) hX dX1_countFrom_39 (by have := hV.b0; omega) (by rw [hV.kk 0 (by decide) (show xK b 0 = 54 from rfl)]; decide) (hV.ln 0 (by decide) (show xL 0 = 7 from rfl)) (by omega) rfl ?_
            rw [hV.c0 (by omega)]
            refine g_iload (pc' := 42) hX dX1_countFrom_40 rfl rfl ?_
            refine g_ialdL (pc' := 43) hX dX1_countFrom_42 (by have := hV.b0; omega) (hV.ck (by omega)) (hV.cl (by omega)) (by omega) rfl ?_
            rw [hA _ j (by omega) (by omega) j0 (by omega)]
            refine g_iload_n (pc' := 44) hX dX1_countFrom_43 rfl rfl ?_
            refine g_icmp_gt (pc' := 47) (tgt := 76) hX dX1_countFrom_44 (by decide) rfl (by omega) (by omega) (fun h44 => ?_) (fun h44 => ?_)
            · skip
              have hF1 : ctG N R1 s C a j = 0 := by
                unfold ctG
                rw [← hrow]
                exact if_neg (fun z => by have := z.2; omega)
              refine g_iinc_5 (pc' := 79) hX dX1_countFrom_76 (by decide) rfl rfl ?_
              refine g_goto (tgt := 16) hX dX1_countFrom_79 (by decide) ?_
              have e := ih (j + 1) (by omega) (by omega) (by omega)
              rw [sm_i j0, hF1] at e
              first
                | exact e
                | (rw [Int.add_zero] at e; exact e)
            · skip
              have hF1 : ctG N R1 s C a j = cW N C R1 (s ||| 1 <<< j.toNat) (a - C ((N : Int) - ((R1 + 1 : Nat) : Int)) j) := by
                unfold ctG
                rw [← hrow]
                exact if_pos ⟨by omega, by omega⟩
              refine g_iload (pc' := 49) hX dX1_countFrom_47 rfl rfl ?_
              refine g_aload_n (pc' := 50) hX dX1_countFrom_49 rfl rfl ?_
              refine g_iload_n (pc' := 51) hX dX1_countFrom_50 rfl rfl ?_
              refine g_iconst (pc' := 52) hX dX1_countFrom_51 rfl ?_
              refine g_iadd (pc' := 53) hX dX1_countFrom_52 rfl ?_
              rw [show (N : Int) - ((R1 + 1 : Nat) : Int) + 1 = (N : Int) - (R1 : Nat) by omega]
              refine g_iload_n (pc' := 54) hX dX1_countFrom_53 rfl rfl ?_
              refine g_iconst (pc' := 55) hX dX1_countFrom_54 rfl ?_
              refine g_iload (pc' := 57) hX dX1_countFrom_55 rfl rfl ?_
              refine g_ishl (pc' := 58) (((1 <<< j.toNat : Nat) : Int)) hX dX1_countFrom_57 (bt_shl (by omega)) rfl ?_
              refine g_ior (pc' := 59) (((s ||| 1 <<< j.toNat : Nat) : Int)) hX dX1_countFrom_58 (b_or s hs j.toNat (by omega)) rfl ?_
              refine g_iload_n (pc' := 60) hX dX1_countFrom_59 rfl rfl ?_
              refine g_aload_n (pc' := 61) hX dX1_countFrom_60 rfl rfl ?_
              refine gf_X1_35 (pc' := 64) hX dX1_countFrom_61 hV.h0 hV.hk rfl ?_
              rw [hV.f 7 (by decide) (show xF 7 = 0 from rfl)]
              refine g_iload_n (pc' := 65) hX dX1_countFrom_64 rfl rfl ?_
              refine g_aaldL (pc' := 66) hX dX1_countFrom_65 (by have := hV.b0; omega) (by rw [hV.kk 0 (by decide) (show xK b 0 = 54 from rfl)]; decide) (hV.ln 0 (by decide) (show xL 0 = 7 from rfl)) (by omega) rfl ?_
              rw [hV.c0 (by omega)]
              refine g_iload (pc' := 68) hX dX1_countFrom_66 rfl rfl ?_
              refine g_ialdL (pc' := 69) hX dX1_countFrom_68 (by have := hV.b0; omega) (hV.ck (by omega)) (hV.cl (by omega)) (by omega) rfl ?_
              rw [hA _ j (by omega) (by omega) j0 (by omega)]
              refine g_isub (pc' := 70) hX dX1_countFrom_69 rfl ?_
              refine gV3E0 (pc' := 73) hX dX1_countFrom_70 ml_X1_310 gc_X1 hV.h0 hV.hk (IH R1 (by omega) (s ||| 1 <<< j.toNat) (a - C ((N : Int) - ((R1 + 1 : Nat) : Int)) j) (b_or_lt s hs j.toNat (by omega)) (by omega) (by omega) (by omega)) (Nat.le_of_ble_eq_true rfl) (by omega) rfl ?_
              refine g_iadd (pc' := 74) hX dX1_countFrom_73 rfl ?_
              refine g_istore_4 (pc' := 76) hX dX1_countFrom_74 (by decide) rfl rfl ?_
              refine g_iinc_5 (pc' := 79) hX dX1_countFrom_76 (by decide) rfl rfl ?_
              refine g_goto (tgt := 16) hX dX1_countFrom_79 (by decide) ?_
              have e := ih (j + 1) (by omega) (by omega) (by omega)
              rw [sm_i j0, hF1] at e
              first
                | exact e
                | (rw [Int.add_zero] at e; exact e)
    exact loop 100 0 (by omega) (by omega) (by omega)
  · skip
    have hr0 : rr = 0 := by omega
    subst hr0
    refine g_iconst (pc' := 9) hX dX1_countFrom_8 rfl ?_
    exact g_retE hX hF dX1_countFrom_9 rfl rfl

theorem c_s_countFrom (hH : XX E xo b n m h sn sm sh e w) (hN : n = (N : Int)) (hA : ∀ i j : Int, 0 ≤ i → i < n → 0 ≤ j → j < n → rdw w (b + 1 + i) j = C i j) (hC : ∀ i j : Int, 0 ≤ i → i < n → 0 ≤ j → j < n → 0 ≤ C i j ∧ C i j ≤ 1000) : ∀ (r' s : Nat) (a : Int), s < 128 → r' ≤ N → 0 ≤ a → a ≤ 7000 → Call E mX1_countFrom r' 0 0 [vR xo, vI ((N : Int) - (r' : Nat)), vI (s : Nat), vI a] w (qE (cW N C r' s a) w) := by
  intro r'
  induction r' using Nat.strongRecOn with
  | ind r' IH => exact fun s a h1 h2 h3 h4 => c_s_countFrom1 hH hN hA hC IH h1 h2 ⟨h3, h4⟩
theorem c_o_countWithin (hH : XX E xo b n m h sn sm sh e w) (ba : -2147483648 ≤ a ∧ a ≤ 2147483647)  : Call E mX1_countWithin 9 1 6 [vR xo, vI a] w (qC (if 0 ≤ a ∧ a ≤ 7000 then 0 else 2) (ctW (tC m h) a (pmN n.toNat)) (fun w' => XX E xo b n m h sn sm sh e w' ∧ Gr (fun a _ => ZX xo b w a) w w') w) := by
  refine call_of (av := [(1, xo), (0, a)]) (by decide +kernel) rfl (Nat.le_of_ble_eq_true rfl) ?_
  intro X hX hF hname
  show GG X 1 6 w 0 [(1, xo), (0, a)] []
  have hS := SB.rf hH
  have hV := hH.1
  have hn := hH.2.2.1.1.2.1
  have hnb : 1 ≤ n ∧ n ≤ 7 := by omega
  have hC := hH.2.2.1.bCn
  refine g_iload_n (pc' := 1) hX dX1_countWithin_0 rfl rfl ?_
  refine g_i2l (pc' := 2) hX dX1_countWithin_1 (by omega) rfl ?_
  refine g_lconst (pc' := 3) (v := 0) hX dX1_countWithin_2 rfl rfl ?_
  refine g_ldc2 (pc' := 6) (n := 7000) hX dX1_countWithin_3 q1431 rfl rfl ?_
  refine gS3E0 (pc' := 9) hX dX1_countWithin_6 ml_X1_127 (c_k_isIn (by omega) (by omega) (by omega)) (Nat.le_of_ble_eq_true rfl) (by decide) rfl ?_
  refine gS1UX (pc' := 12) hX dX1_countWithin_9 ml_X1_162 (c_k_needNumber (by omega)) (Nat.le_of_ble_eq_true rfl) (by decide) ⟨by omega, by omega⟩ rfl (fun w9 q9 => ?_) (fun k2 w2 hk0 hq => by
    obtain ⟨rfl, hz9, hG9⟩ := hq
    exact g_outX hX hF hk0 ⟨by (repeat' split) <;> omega, hG9⟩)
  obtain ⟨hz9, hw9⟩ := q9
  rw [hw9]
  refine g_aload_n (pc' := 13) hX dX1_countWithin_12 rfl rfl ?_
  refine gV0U0 (pc' := 16) hX dX1_countWithin_13 ml_X1_284 gc_X1 hV.h0 hV.hk (c_s_load hS.1) (Nat.le_of_ble_eq_true rfl) (by decide) rfl (fun w13 q13 => ?_)
  obtain ⟨-, hFl, h6, hA⟩ := q13
  have hS := hS.ld hFl
  have hV := hS.1.1
  refine g_aload_n (pc' := 17) hX dX1_countWithin_16 rfl rfl ?_
  refine g_iconst (pc' := 18) hX dX1_countWithin_17 rfl ?_
  refine g_iconst (pc' := 19) hX dX1_countWithin_18 rfl ?_
  refine g_iload_n (pc' := 20) hX dX1_countWithin_19 rfl rfl ?_
  have hcf := c_s_countFrom hS.1 (show n = (n.toNat : Int) by omega) hA hC n.toNat 0 a (by omega) (Nat.le_refl _) (by omega) (by omega)
  rw [Int.sub_self] at hcf
  refine gV3E0 (pc' := 23) hX dX1_countWithin_20 ml_X1_310 gc_X1 hV.h0 hV.hk hcf (Nat.le_of_ble_eq_true rfl) (by omega) rfl ?_
  exact g_retIX hX hF dX1_countWithin_23 ⟨by (repeat' split) <;> omega, (OB_ctw hnb hC (by omega)).symm, hS.1, hS.gx hH.1⟩

theorem c_o_stepsMade (hH : XX E xo b n m h sn sm sh e w) (hk : e.k ≤ 1000000) : Call E mX1_stepsMade 0 0 0 [vR xo] w (qE e.k w) := by
  refine call_of (av := [(1, xo)]) (by decide +kernel) rfl (Nat.le_of_ble_eq_true rfl) ?_
  intro X hX hF hname
  show GG X 0 0 w 0 [(1, xo)] []
  have hV := hH.1
  have hE : (e.k = -1 ∧ rdw w xo 23 = 0) ∨ (0 ≤ e.k ∧ rdw w xo 23 = 1 ∧ rdw w xo 24 = e.k) := by
    rcases hH.2.2.2.2 with z | z
    · exact Or.inl ⟨z.1, z.2.1⟩
    · exact Or.inr ⟨z.1, z.2.1, z.2.2.1⟩
  refine g_aload_n (pc' := 1) hX dX1_stepsMade_0 rfl rfl ?_
  refine gf_X1_147 (pc' := 4) hX dX1_stepsMade_1 hV.h0 hV.hk rfl ?_
  refine g_if_eq (pc' := 7) (tgt := 14) hX dX1_stepsMade_4 (by decide) rfl (by omega) (fun h4 => ?_) (fun h4 => ?_)
  · skip
    refine g_iconst (pc' := 15) hX dX1_stepsMade_14 rfl ?_
    exact g_retE hX hF dX1_stepsMade_15 (by omega) rfl
  · skip
    refine g_aload_n (pc' := 8) hX dX1_stepsMade_7 rfl rfl ?_
    refine gf_X1_151 (pc' := 11) hX dX1_stepsMade_8 hV.h0 hV.hk rfl ?_
    refine g_goto (tgt := 15) hX dX1_stepsMade_11 (by decide) ?_
    exact g_retE hX hF dX1_stepsMade_15 (by omega) rfl

theorem c_o_currentColumn (hH : XX E xo b n m h sn sm sh e w) (br : -2147483648 ≤ r ∧ r ≤ 2147483647) (hk : e.k ≤ 1000) : Call E mX1_currentColumn 9 2 12 [vR xo, vI r] w (qC (if ¬ (0 ≤ r ∧ r ≤ n - 1) then 1 else if e.k < 1 then 3 else 0) (e.cu r) (fun w' => XX E xo b n m h sn sm sh e w' ∧ Gr (fun a _ => ZX xo b w a) w w') w) := by
  refine call_of (av := [(1, xo), (0, r)]) (by decide +kernel) rfl (Nat.le_of_ble_eq_true rfl) ?_
  intro X hX hF hname
  show GG X 2 12 w 0 [(1, xo), (0, r), (9, 0), (9, 0)] []
  have hS := SB.rf hH
  have hV := hH.1
  have hn := hH.2.2.1.1.2.1
  have hnb : 1 ≤ n ∧ n ≤ 7 := by omega
  have hC := hH.2.2.1.bCn
  have hE : (e.k = -1 ∧ rdw w xo 23 = 0) ∨ (0 ≤ e.k ∧ rdw w xo 23 = 1 ∧ rdw w xo 24 = e.k ∧ e.k ≤ 1000) := by
    rcases hH.2.2.2.2 with z | z
    · exact Or.inl ⟨z.1, z.2.1⟩
    · exact Or.inr ⟨z.1, z.2.1, z.2.2.1, hk⟩
  have hE2 : 1 ≤ e.k → CuT xo n e w := fun h1 => by
    rcases hH.2.2.2.2 with z | z
    · have := z.1; omega
    · obtain ⟨-, -, -, -, L, -, -, -, -, -, -, -, -, -, -, lc⟩ := z
      exact lc h1
  refine g_aload_n (pc' := 1) hX dX1_currentColumn_0 rfl rfl ?_
  refine g_iload_n (pc' := 2) hX dX1_currentColumn_1 rfl rfl ?_
  refine gV1E0 (pc' := 5) hX dX1_currentColumn_2 ml_X1_169 gc_X1 hV.h0 hV.hk (c_k_isRow hV hS.1.2.2.1.1.1.1 (by omega) (by omega)) (Nat.le_of_ble_eq_true rfl) (by decide) rfl ?_
  refine gS1UX (pc' := 8) hX dX1_currentColumn_5 ml_X1_176 (c_k_needPlace (by omega)) (Nat.le_of_ble_eq_true rfl) (by decide) ⟨by omega, by omega⟩ rfl (fun w5 q5 => ?_) (fun k2 w2 hk0 hq => by
    obtain ⟨rfl, hz5, hG5⟩ := hq
    exact g_outX hX hF hk0 ⟨by (repeat' split) <;> omega, hG5⟩)
  obtain ⟨hz5, hw5⟩ := q5
  rw [hw5]
  refine g_aload_n (pc' := 9) hX dX1_currentColumn_8 rfl rfl ?_
  refine gf_X1_147 (pc' := 12) hX dX1_currentColumn_9 hV.h0 hV.hk rfl ?_
  refine g_if_eq (pc' := 15) (tgt := 26) hX dX1_currentColumn_12 (by decide) rfl (by omega) (fun h12 => ?_) (fun h12 => ?_)
  · skip
    refine g_iconst (pc' := 27) hX dX1_currentColumn_26 rfl ?_
    refine gS1UX (pc' := 30) hX dX1_currentColumn_27 ml_X1_209 (c_k_needState (by omega)) (Nat.le_of_ble_eq_true rfl) (by decide) ⟨by omega, by omega⟩ rfl (fun w2 q => absurd q.1 (by decide)) (fun k2 w2 hk0 hq => ?_)
    obtain ⟨rfl, hz27, hG27⟩ := hq
    exact g_outX hX hF hk0 ⟨by (repeat' split) <;> omega, hG27⟩
  · skip
    refine g_aload_n (pc' := 16) hX dX1_currentColumn_15 rfl rfl ?_
    refine gf_X1_151 (pc' := 19) hX dX1_currentColumn_16 hV.h0 hV.hk rfl ?_
    refine g_if_le (pc' := 22) (tgt := 26) hX dX1_currentColumn_19 (by decide) rfl (by omega) (fun h19 => ?_) (fun h19 => ?_)
    · skip
      refine g_iconst (pc' := 27) hX dX1_currentColumn_26 rfl ?_
      refine gS1UX (pc' := 30) hX dX1_currentColumn_27 ml_X1_209 (c_k_needState (by omega)) (Nat.le_of_ble_eq_true rfl) (by decide) ⟨by omega, by omega⟩ rfl (fun w2 q => absurd q.1 (by decide)) (fun k2 w2 hk0 hq => ?_)
      obtain ⟨rfl, hz27, hG27⟩ := hq
      exact g_outX hX hF hk0 ⟨by (repeat' split) <;> omega, hG27⟩
    · skip
      obtain ⟨τ, hτ, hcd, hcu⟩ := hE2 (by omega)
      have hτm := pmN_mem.mp hτ
      have hτ9 : ∀ x ∈ τ, x < 9 := fun x hx => by have := hτm.2.2 x hx; omega
      have hall : τ.take n.toNat = τ := by rw [← hτm.1]; exact List.take_length
      rw [← hall] at hcd
      refine g_iconst (pc' := 23) hX dX1_currentColumn_22 rfl ?_
      refine g_goto (tgt := 27) hX dX1_currentColumn_23 (by decide) ?_
      refine gS1UX (pc' := 30) hX dX1_currentColumn_27 ml_X1_209 (c_k_needState (by omega)) (Nat.le_of_ble_eq_true rfl) (by decide) ⟨by omega, by omega⟩ rfl (fun w27 q27 => ?_) (fun k2 w2 hk0 hq => absurd hq.2.1 (by decide))
      obtain ⟨-, hw27⟩ := q27
      rw [hw27]
      refine g_aload_n (pc' := 31) hX dX1_currentColumn_30 rfl rfl ?_
      refine gf_X1_154 (pc' := 34) hX dX1_currentColumn_31 hV.h0 hV.hk rfl ?_
      rw [hcd]
      refine g_istore_n_2 (pc' := 35) hX dX1_currentColumn_34 (by decide) rfl rfl ?_
      refine g_aload_n (pc' := 36) hX dX1_currentColumn_35 rfl rfl ?_
      refine gf_X1_7 (pc' := 39) hX dX1_currentColumn_36 hV.h0 hV.hk rfl ?_
      rw [hS.1.2.2.1.1.1.1]
      refine g_iconst (pc' := 40) hX dX1_currentColumn_39 rfl ?_
      refine g_isub (pc' := 41) hX dX1_currentColumn_40 rfl ?_
      refine g_istore_n_3 (pc' := 42) hX dX1_currentColumn_41 (by decide) rfl rfl ?_
      have loop : ∀ (f : Nat) (i : Int), r ≤ i → i < n → i - r < f → GG X 0 0 w 42 [(1, xo), (0, r), (0, cd 0 (τ.take (i + 1).toNat)), (0, i)] [] := by
        intro f
        induction f with
        | zero => intro i i0 i1 hf; exact absurd hf (by omega)
        | succ f ih =>
          intro i i0 i1 hf
          have hct := cd_take (τ := τ) (i := i.toNat) (by omega) hτ9
          have htb := cd_tb hτ9 (i + 1).toNat (by omega)
          have hp10 := p10 (i + 1).toNat (by omega)
          rw [show i.toNat + 1 = (i + 1).toNat by omega] at hct
          refine g_iload_n (pc' := 43) hX dX1_currentColumn_42 rfl rfl ?_
          refine g_iload_n (pc' := 44) hX dX1_currentColumn_43 rfl rfl ?_
          refine g_icmp_le (pc' := 47) (tgt := 58) hX dX1_currentColumn_44 (by decide) rfl (by omega) (by omega) (fun h44 => ?_) (fun h44 => ?_)
          · skip
            refine g_iload_n (pc' := 59) hX dX1_currentColumn_58 rfl rfl ?_
            refine g_bipush (pc' := 61) hX dX1_currentColumn_59 rfl rfl ?_
            refine g_iremP (pc' := 62) hX dX1_currentColumn_61 (by omega) (by omega) rfl ?_
            refine g_iconst (pc' := 63) hX dX1_currentColumn_62 rfl ?_
            refine g_isub (pc' := 64) hX dX1_currentColumn_63 rfl ?_
            exact g_retIX hX hF dX1_currentColumn_64 ⟨by (repeat' split) <;> omega, by rw [hcu r (by omega) (by omega), hct.2, show i = r by omega], hS.1, hS.gx hH.1⟩
          · skip
            refine g_iload_n (pc' := 48) hX dX1_currentColumn_47 rfl rfl ?_
            refine g_bipush (pc' := 50) hX dX1_currentColumn_48 rfl rfl ?_
            refine g_idivP (pc' := 51) hX dX1_currentColumn_50 (by omega) (by omega) rfl ?_
            refine g_istore_n_2 (pc' := 52) hX dX1_currentColumn_51 (by decide) rfl rfl ?_
            refine g_iinc_3 (pc' := 55) hX dX1_currentColumn_52 (by decide) rfl rfl ?_
            refine g_goto (tgt := 42) hX dX1_currentColumn_55 (by decide) ?_
            have e := ih (i + -1) (by omega) (by omega) (by omega)
            rw [show i + -1 + 1 = i by omega] at e
            rw [hct.1]
            exact e
      rw [show τ.take n.toNat = τ.take (n - 1 + 1).toNat by rw [show n - 1 + 1 = n by omega]]
      exact GG_less (loop 100 (n - 1) (by omega) (by omega) (by omega)) (by omega) (by omega)

theorem c_o_sumOf (hH : XX E xo b n m h sn sm sh e w) (ba : -2147483648 ≤ a ∧ a ≤ 2147483647)  : Call E mX1_sumOf 9 10 60 [vR xo, vI a] w (qC (if (soF n m h n.toNat a 0 0).1 = 0 then 0 else 2) ((soF n m h n.toNat a 0 0).2) (fun w' => XX E xo b n m h sn sm sh e w' ∧ Gr (fun a _ => ZX xo b w a) w w') w) := by
  refine call_of (av := [(1, xo), (0, a)]) (by decide +kernel) rfl (Nat.le_of_ble_eq_true rfl) ?_
  intro X hX hF hname
  show GG X 10 60 w 0 [(1, xo), (0, a), (9, 0), (9, 0), (9, 0), (9, 0), (9, 0)] []
  have hS := SB.rf hH
  have hV := hH.1
  have hn := hH.2.2.1.1.2.1
  have hnb : 1 ≤ n ∧ n ≤ 7 := by omega
  have hC := hH.2.2.1.bCn
  refine g_iload_n (pc' := 1) hX dX1_sumOf_0 rfl rfl ?_
  refine g_if_le (pc' := 4) (tgt := 8) hX dX1_sumOf_1 (by decide) rfl (by omega) (fun h1 => ?_) (fun h1 => ?_)
  · skip
    have hso := soF_neg (n := n) (m := m) (h := h) (l := a) (by omega) (by omega)
    refine g_iconst (pc' := 9) hX dX1_sumOf_8 rfl ?_
    refine gS1UX (pc' := 12) hX dX1_sumOf_9 ml_X1_162 (c_k_needNumber (by omega)) (Nat.le_of_ble_eq_true rfl) (by decide) ⟨by omega, by omega⟩ rfl (fun w2 q => absurd q.1 (by decide)) (fun k2 w2 hk0 hq => ?_)
    obtain ⟨rfl, hz9, hG9⟩ := hq
    exact g_outX hX hF hk0 ⟨by (repeat' split) <;> omega, hG9⟩
  · skip
    refine g_iconst (pc' := 5) hX dX1_sumOf_4 rfl ?_
    refine g_goto (tgt := 9) hX dX1_sumOf_5 (by decide) ?_
    refine gS1UX (pc' := 12) hX dX1_sumOf_9 ml_X1_162 (c_k_needNumber (by omega)) (Nat.le_of_ble_eq_true rfl) (by decide) ⟨by omega, by omega⟩ rfl (fun w9 q9 => ?_) (fun k2 w2 hk0 hq => absurd hq.2.1 (by decide))
    obtain ⟨-, hw9⟩ := q9
    rw [hw9]
    refine g_iload_n (pc' := 13) hX dX1_sumOf_12 rfl rfl ?_
    refine g_istore_n_2 (pc' := 14) hX dX1_sumOf_13 (by decide) rfl rfl ?_
    refine g_iconst (pc' := 15) hX dX1_sumOf_14 rfl ?_
    refine g_istore_n_3 (pc' := 16) hX dX1_sumOf_15 (by decide) rfl rfl ?_
    refine g_iconst (pc' := 17) hX dX1_sumOf_16 rfl ?_
    refine g_istore_4 (pc' := 19) hX dX1_sumOf_17 (by decide) rfl rfl ?_
    refine g_aload_n (pc' := 20) hX dX1_sumOf_19 rfl rfl ?_
    refine gf_X1_7 (pc' := 23) hX dX1_sumOf_20 hV.h0 hV.hk rfl ?_
    rw [hS.1.2.2.1.1.1.1]
    refine g_iconst (pc' := 24) hX dX1_sumOf_23 rfl ?_
    refine g_isub (pc' := 25) hX dX1_sumOf_24 rfl ?_
    refine g_istore_5 (pc' := 27) hX dX1_sumOf_25 (by decide) rfl rfl ?_
    have loop : ∀ (f : Nat) (i l z x6v : Int) (s : Nat) (x6 : Nat × Int), -1 ≤ i → i < n → 0 ≤ l → l ≤ 2147483647 → s < 128 → (soF n m h n.toNat a 0 0) = soF n m h (i + 1).toNat l s z → i + 1 < f → GG X ((i + 1).toNat + 1) (6 * (i + 1).toNat + 6) w 27 [(1, xo), (0, a), (0, l), (0, (s : Int)), (0, z), (0, i), x6] [] := by
      intro f
      induction f with
      | zero => intro i l z x6v s x6 i0 i1 l0 l1 hs hso0 hf; exact absurd hf (by omega)
      | succ f ih =>
        intro i l z x6v s x6 i0 i1 l0 l1 hs hso0 hf
        refine g_iload (pc' := 29) hX dX1_sumOf_27 rfl rfl ?_
        refine g_if_lt (pc' := 32) (tgt := 97) hX dX1_sumOf_29 (by decide) rfl (by omega) (fun h29 => ?_) (fun h29 => ?_)
        · skip
          have hi0 : (i + 1).toNat = 0 := by omega
          rw [hi0] at hso0
          have hso0 : (soF n m h n.toNat a 0 0) = (l, z) := hso0
          refine g_iload_n (pc' := 98) hX dX1_sumOf_97 rfl rfl ?_
          refine g_if_ne (pc' := 101) (tgt := 105) hX dX1_sumOf_98 (by decide) rfl (by omega) (fun h98 => ?_) (fun h98 => ?_)
          · skip
            have hso : (soF n m h n.toNat a 0 0).1 = l := by rw [hso0]
            refine g_iconst (pc' := 106) hX dX1_sumOf_105 rfl ?_
            refine gS1UX (pc' := 109) hX dX1_sumOf_106 ml_X1_162 (c_k_needNumber (by omega)) (Nat.le_of_ble_eq_true rfl) (by decide) ⟨by omega, by omega⟩ rfl (fun w2 q => absurd q.1 (by decide)) (fun k2 w2 hk0 hq => ?_)
            obtain ⟨rfl, hz106, hG106⟩ := hq
            exact g_outX hX hF hk0 ⟨by (repeat' split) <;> omega, hG106⟩
          · skip
            have hso : (soF n m h n.toNat a 0 0).1 = 0 := by rw [hso0]; show l = 0; omega
            refine g_iconst (pc' := 102) hX dX1_sumOf_101 rfl ?_
            refine g_goto (tgt := 106) hX dX1_sumOf_102 (by decide) ?_
            refine gS1UX (pc' := 109) hX dX1_sumOf_106 ml_X1_162 (c_k_needNumber (by omega)) (Nat.le_of_ble_eq_true rfl) (by decide) ⟨by omega, by omega⟩ rfl (fun w106 q106 => ?_) (fun k2 w2 hk0 hq => absurd hq.2.1 (by decide))
            obtain ⟨-, hw106⟩ := q106
            rw [hw106]
            refine g_iload (pc' := 111) hX dX1_sumOf_109 rfl rfl ?_
            exact g_retIX hX hF dX1_sumOf_111 ⟨by rw [if_pos hso], by rw [hso0], hS.1, hS.gx hH.1⟩
        · skip
          have hst := soF_s (n := n) (m := m) (h := h) (z := z) (t := s) l0 i.toNat
          rw [show i.toNat + 1 = (i + 1).toNat by omega] at hst
          have hit : ((i.toNat : Nat) : Int) = i := by omega
          refine g_iload_n (pc' := 33) hX dX1_sumOf_32 rfl rfl ?_
          refine g_bipush (pc' := 35) hX dX1_sumOf_33 rfl rfl ?_
          refine g_iremP (pc' := 36) hX dX1_sumOf_35 (by omega) (by omega) rfl ?_
          refine g_iconst (pc' := 37) hX dX1_sumOf_36 rfl ?_
          refine g_isub (pc' := 38) hX dX1_sumOf_37 rfl ?_
          refine g_istore_6 (pc' := 40) hX dX1_sumOf_38 (by decide) rfl rfl ?_
          refine g_aload_n (pc' := 41) hX dX1_sumOf_40 rfl rfl ?_
          refine g_iload (pc' := 43) hX dX1_sumOf_41 rfl rfl ?_
          refine gV1E0 (pc' := 46) hX dX1_sumOf_43 ml_X1_169 gc_X1 hV.h0 hV.hk (c_k_isRow hV hS.1.2.2.1.1.1.1 (by omega) (by omega)) (Nat.le_of_ble_eq_true rfl) (by decide) rfl ?_
          refine g_if_eq (pc' := 49) (tgt := 62) hX dX1_sumOf_46 (by decide) rfl (by omega) (fun h46 => ?_) (fun h46 => ?_)
          · skip
            have hso : (soF n m h n.toNat a 0 0).1 = -1 := by rw [hso0, hst, if_neg (fun y => by have := y.1; omega)]
            refine g_iconst (pc' := 63) hX dX1_sumOf_62 rfl ?_
            refine gS1UX (pc' := 66) hX dX1_sumOf_63 ml_X1_162 (c_k_needNumber (by omega)) (Nat.le_of_ble_eq_true rfl) (by decide) ⟨by omega, by omega⟩ rfl (fun w2 q => absurd q.1 (by decide)) (fun k2 w2 hk0 hq => ?_)
            obtain ⟨rfl, hz63, hG63⟩ := hq
            exact g_outX hX hF hk0 ⟨by (repeat' split) <;> omega, hG63⟩
          · skip
            refine g_iload_n (pc' := 50) hX dX1_sumOf_49 rfl rfl ?_
            refine g_iload (pc' := 52) hX dX1_sumOf_50 rfl rfl ?_
            refine g_ishr (pc' := 53) (((s >>> (l % 10 - 1).toNat : Nat) : Int)) hX dX1_sumOf_52 (bt_shr (hs := hs) (by omega)) rfl ?_
            refine g_iconst (pc' := 54) hX dX1_sumOf_53 rfl ?_
            refine g_iand (pc' := 55) (((s >>> (l % 10 - 1).toNat % 2 : Nat) : Int)) hX dX1_sumOf_54 (b_and1' (b_shr_lt s hs (l % 10 - 1).toNat (by omega))) rfl ?_
            refine g_if_ne (pc' := 58) (tgt := 62) hX dX1_sumOf_55 (by decide) rfl (by omega) (fun h55 => ?_) (fun h55 => ?_)
            · skip
              have hso : (soF n m h n.toNat a 0 0).1 = -1 := by rw [hso0, hst, if_neg (fun y => by have := y.2; omega)]
              refine g_iconst (pc' := 63) hX dX1_sumOf_62 rfl ?_
              refine gS1UX (pc' := 66) hX dX1_sumOf_63 ml_X1_162 (c_k_needNumber (by omega)) (Nat.le_of_ble_eq_true rfl) (by decide) ⟨by omega, by omega⟩ rfl (fun w2 q => absurd q.1 (by decide)) (fun k2 w2 hk0 hq => ?_)
              obtain ⟨rfl, hz63, hG63⟩ := hq
              exact g_outX hX hF hk0 ⟨by (repeat' split) <;> omega, hG63⟩
            · skip
              refine g_iconst (pc' := 59) hX dX1_sumOf_58 rfl ?_
              refine g_goto (tgt := 63) hX dX1_sumOf_59 (by decide) ?_
              refine gS1UX (pc' := 66) hX dX1_sumOf_63 ml_X1_162 (c_k_needNumber (by omega)) (Nat.le_of_ble_eq_true rfl) (by decide) ⟨by omega, by omega⟩ rfl (fun w63 q63 => ?_) (fun k2 w2 hk0 hq => absurd hq.2.1 (by decide))
              obtain ⟨-, hw63⟩ := q63
              rw [hw63]
              refine g_iload_n (pc' := 67) hX dX1_sumOf_66 rfl rfl ?_
              refine g_iconst (pc' := 68) hX dX1_sumOf_67 rfl ?_
              refine g_iload (pc' := 70) hX dX1_sumOf_68 rfl rfl ?_
              refine g_ishl (pc' := 71) (((1 <<< (l % 10 - 1).toNat : Nat) : Int)) hX dX1_sumOf_70 (bt_shl (by omega)) rfl ?_
              refine g_ior (pc' := 72) (((s ||| 1 <<< (l % 10 - 1).toNat : Nat) : Int)) hX dX1_sumOf_71 (b_or s hs (l % 10 - 1).toNat (by omega)) rfl ?_
              refine g_istore_n_3 (pc' := 73) hX dX1_sumOf_72 (by decide) rfl rfl ?_
              refine g_iload (pc' := 75) hX dX1_sumOf_73 rfl rfl ?_
              refine g_aload_n (pc' := 76) hX dX1_sumOf_75 rfl rfl ?_
              refine g_iload (pc' := 78) hX dX1_sumOf_76 rfl rfl ?_
              refine g_iload (pc' := 80) hX dX1_sumOf_78 rfl rfl ?_
              refine gV2E0 (pc' := 83) hX dX1_sumOf_80 ml_X1_204 gc_X1 hV.h0 hV.hk (c_k_costHere hV hS.1.2.2.1 (by omega) (by omega)) (Nat.le_of_ble_eq_true rfl) (by decide) rfl ?_
              refine g_iadd (pc' := 84) hX dX1_sumOf_83 rfl ?_
              refine g_istore_4 (pc' := 86) hX dX1_sumOf_84 (by decide) rfl rfl ?_
              refine g_iload_n (pc' := 87) hX dX1_sumOf_86 rfl rfl ?_
              refine g_bipush (pc' := 89) hX dX1_sumOf_87 rfl rfl ?_
              refine g_idivP (pc' := 90) hX dX1_sumOf_89 (by omega) (by omega) rfl ?_
              refine g_istore_n_2 (pc' := 91) hX dX1_sumOf_90 (by decide) rfl rfl ?_
              refine g_iinc_5 (pc' := 94) hX dX1_sumOf_91 (by decide) rfl rfl ?_
              refine g_goto (tgt := 27) hX dX1_sumOf_94 (by decide) ?_
              refine GG_less (ih (i + -1) _ _ 0 _ _ (by omega) (by omega) (by omega) (by omega) (b_or_lt s hs _ (by omega)) (by rw [hso0, hst, if_pos ⟨by omega, by omega⟩, show i + -1 + 1 = i by omega, hit]) (by omega)) (by omega) (by omega)
    exact GG_less (loop 100 (n - 1) a 0 0 0 _ (by omega) (by omega) (by omega) (by omega) (by omega) (by rw [show n - 1 + 1 = n by omega]) (by omega)) (by omega) (by omega)

end S11S
