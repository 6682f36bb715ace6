/-! MODEL: the table's operations (by gen/spec_m6.py) -/
set_option maxRecDepth 100000
set_option maxHeartbeats 4000000
section M6
variable {E : Ev} {mo n m sn sm : Int} {h sh : Int → Int → Int} {e : En} {w : Wd}
theorem c_mo_resize {a b : Int} (hM : MM E mo n m h sn sm sh e w) (ba : -2147483648 ≤ a ∧ a ≤ 2147483647) (bb : -2147483648 ≤ b ∧ b ≤ 2147483647)  : Call E mX4_resize 1 0 0 [vR mo, vI a, vI b] w (qI (mP mo w (if 1 ≤ a ∧ a ≤ 7 ∧ 1 ≤ b ∧ b ≤ a then 0 else 1) (a * b) (fun w' => MM E mo a b (fun _ _ => 0) sn sm sh e.off w') (fun w' => MM E mo n m h sn sm sh e w'))) := by
  refine call_of (av := [(1, mo), (0, a), (0, b)]) (by decide +kernel) rfl (Nat.le_of_ble_eq_true rfl) ?_
  intro X hX hF hname
  show GG X 0 0 w 0 [(1, mo), (0, a), (0, b), (9, 0)] []
  have hb := hM.1.b
  have hsb := hM.2.1.2
  skip
  refine g_aload_n (pc' := 1) hX dX4_resize_0 rfl rfl ?_
  refine g_iload_n (pc' := 2) hX dX4_resize_1 rfl rfl ?_
  refine g_i2l (pc' := 3) hX dX4_resize_2 (by omega) rfl ?_
  refine g_lconst (pc' := 4) (v := 1) hX dX4_resize_3 rfl rfl ?_
  refine g_ldc2 (pc' := 7) (n := 7) hX dX4_resize_4 q1599 rfl rfl ?_
  refine gS3E0 (pc' := 10) hX dX4_resize_7 ml_X4_63 (c_m_isIn (by omega) (by omega) (by omega)) (Nat.le_of_ble_eq_true rfl) (by decide) rfl ?_
  refine g_if_eq (pc' := 13) (tgt := 24) hX dX4_resize_10 (by decide) rfl (by omega) (fun h10 => ?_) (fun h10 => ?_)
  · skip
    refine g_iconst (pc' := 25) hX dX4_resize_24 rfl ?_
    refine g_goto (tgt := 29) hX dX4_resize_25 (by decide) ?_
    refine gV1I0 (pc' := 32) hX dX4_resize_29 ml_X4_118 gc_X4 hM.1.h0 hM.1.hk (c_m_wrong hM (by omega)) (Nat.le_of_ble_eq_true rfl) (by decide) rfl (fun r29 w29 q29 => ?_)
    obtain ⟨hM, hWA, hR, h4, hr29⟩ := q29
    have hI := hM.1
    have hW : Fr (zB mo) w29 w29 := Fr.rf
    have e0 : r29 = 1 := by omega
    subst e0
    clear hr29
    skip
    refine g_if_eq (pc' := 35) (tgt := 37) hX dX4_resize_32 (by decide) rfl (by omega) (fun h32 => absurd h32 (by omega)) (fun h32 => ?_)
    refine g_iconst (pc' := 36) hX dX4_resize_35 rfl ?_
    exact g_retI hX hF dX4_resize_36 (mP.bad hWA h4 (by omega) (by omega) hM)
  · skip
    refine g_iload_n (pc' := 14) hX dX4_resize_13 rfl rfl ?_
    refine g_i2l (pc' := 15) hX dX4_resize_14 (by omega) rfl ?_
    refine g_lconst (pc' := 16) (v := 1) hX dX4_resize_15 rfl rfl ?_
    refine g_iload_n (pc' := 17) hX dX4_resize_16 rfl rfl ?_
    refine g_i2l (pc' := 18) hX dX4_resize_17 (by omega) rfl ?_
    refine gS3E0 (pc' := 21) hX dX4_resize_18 ml_X4_63 (c_m_isIn (by omega) (by omega) (by omega)) (Nat.le_of_ble_eq_true rfl) (by decide) rfl ?_
    refine g_if_ne (pc' := 24) (tgt := 28) hX dX4_resize_21 (by decide) rfl (by omega) (fun h21 => ?_) (fun h21 => ?_)
    · skip
      refine g_iconst (pc' := 29) hX dX4_resize_28 rfl ?_
      refine gV1I0 (pc' := 32) hX dX4_resize_29 ml_X4_118 gc_X4 hM.1.h0 hM.1.hk (c_m_wrong hM (by omega)) (Nat.le_of_ble_eq_true rfl) (by decide) rfl (fun r29 w29 q29 => ?_)
      obtain ⟨hM, hWA, hR, h4, hr29⟩ := q29
      have hI := hM.1
      have hW : Fr (zB mo) w29 w29 := Fr.rf
      have e0 : r29 = 0 := by omega
      subst e0
      clear hr29
      skip
      refine g_if_eq (pc' := 35) (tgt := 37) hX dX4_resize_32 (by decide) rfl (by omega) (fun h32 => ?_) (fun h32 => absurd h32 (by omega))
      refine g_aload_n (pc' := 38) hX dX4_resize_37 rfl rfl ?_
      refine g_iload_n (pc' := 39) hX dX4_resize_38 rfl rfl ?_
      refine pf_X4_7 (pc' := 42) hX dX4_resize_39 hM.1.hb hM.1.hk rfl ?_
      skip
      refine g_aload_n (pc' := 43) hX dX4_resize_42 rfl rfl ?_
      refine g_iload_n (pc' := 44) hX dX4_resize_43 rfl rfl ?_
      refine pf_X4_13 (pc' := 47) hX dX4_resize_44 hM.1.hb hM.1.hk rfl ?_
      have hM := hM.nm (x := a) (y := b) (by omega)
      have hW := (hW.up (a := mo) (i := 0) (x := a) (by unfold zB; omega)).up (a := mo) (i := 1) (x := b) (by unfold zB; omega)
      refine g_iconst (pc' := 48) hX dX4_resize_47 rfl ?_
      refine g_istore_n_3 (pc' := 49) hX dX4_resize_48 (by decide) rfl rfl ?_
      have loop : ∀ (f : Nat) (i : Int) (h1 : Int → Int → Int) (w1 : Wd), 0 ≤ i → i ≤ 49 → MM E mo a b h1 sn sm sh e w1 → Fr (zB mo) w29 w1 → (∀ x y : Int, 0 ≤ x → x < 7 → 0 ≤ y → y < 7 → 7 * x + y < i → h1 x y = 0) → 49 < i + f → GG X 0 0 w1 49 [(1, mo), (0, a), (0, b), (0, i)] [] := by
        intro f
        induction f with
        | zero => intro i h1 w1 h0 h7 hM hW hA hf; exact absurd hf (by omega)
        | succ f ih =>
          intro i h1 w1 h0 h7 hM hW hA hf
          refine g_iload_n (pc' := 50) hX dX4_resize_49 rfl rfl ?_
          refine g_bipush (pc' := 52) hX dX4_resize_50 rfl rfl ?_
          refine g_icmp_ge (pc' := 55) (tgt := 75) hX dX4_resize_52 (by decide) rfl (by omega) (by omega) (fun h52 => ?_) (fun h52 => ?_)
          · skip
            refine g_aload_n (pc' := 76) hX dX4_resize_75 rfl rfl ?_
            refine g_iconst (pc' := 77) hX dX4_resize_76 rfl ?_
            refine pf_X4_48 (pc' := 80) hX dX4_resize_77 hM.1.hb hM.1.hk rfl ?_
            refine hM.stO hW (by unfold zB; omega) (fun hM hW => ?_)
            refine g_aload_n (pc' := 81) hX dX4_resize_80 rfl rfl ?_
            refine gf_X4_7 (pc' := 84) hX dX4_resize_81 hM.1.h0 hM.1.hk rfl ?_
            rw [hM.1.vn]
            refine g_aload_n (pc' := 85) hX dX4_resize_84 rfl rfl ?_
            refine gf_X4_13 (pc' := 88) hX dX4_resize_85 hM.1.h0 hM.1.hk rfl ?_
            rw [hM.1.vm]
            refine g_imul (pc' := 89) hX dX4_resize_88 rfl ?_
            exact g_retI hX hF dX4_resize_89 (mP.okB hWA hW h4 (by omega) (hM.cg (fun x y x0 x1 y0 y1 => (hA x y x0 x1 y0 y1 (by omega)).symm)) (rfl))
          · skip
            refine g_aload_n (pc' := 56) hX dX4_resize_55 rfl rfl ?_
            refine gf_X4_22 (pc' := 59) hX dX4_resize_56 hM.1.h0 hM.1.hk rfl ?_
            rw [hM.1.f 5 (by decide) (show moF 5 = 1 by decide)]
            refine g_iload_n (pc' := 60) hX dX4_resize_59 rfl rfl ?_
            refine g_iconst (pc' := 61) hX dX4_resize_60 rfl ?_
            refine g_iastL (pc' := 62) hX dX4_resize_61 (by have := hM.1.hb; omega) (hM.1.k 1 (by decide) (show moK 1 = 50 by decide)) (hM.1.l 1 (by decide) (show moN 1 = 49 by decide)) (by omega) rfl ?_
            refine hM.stN hW (by omega) (by unfold zB; omega) (fun hM hW => ?_)
            refine g_aload_n (pc' := 63) hX dX4_resize_62 rfl rfl ?_
            refine gf_X4_29 (pc' := 66) hX dX4_resize_63 hM.1.h0 hM.1.hk rfl ?_
            rw [hM.1.f 7 (by decide) (show moF 7 = 3 by decide)]
            refine g_iload_n (pc' := 67) hX dX4_resize_66 rfl rfl ?_
            refine g_iconst (pc' := 68) hX dX4_resize_67 rfl ?_
            refine g_zastL (pc' := 69) hX dX4_resize_68 (by have := hM.1.hb; omega) (hM.1.k 3 (by decide) (show moK 3 = 51 by decide)) (hM.1.l 3 (by decide) (show moN 3 = 49 by decide)) (by omega) (by omega) rfl ?_
            refine hM.stF hW (by omega) (by unfold zB; omega) (fun hM hW => ?_)
            refine g_iinc_3 (pc' := 72) hX dX4_resize_69 (by decide) rfl rfl ?_
            refine g_goto (tgt := 49) hX dX4_resize_72 (by decide) ?_
            exact ih (i + 1) _ _ (by omega) (by omega) hM hW (fun x y x0 x1 y0 y1 hxy => by by_cases he : 7 * x + y = i; (simp only [if_pos he]; unfold hhd hno hfg; (repeat' split) <;> omega); (simp only [if_neg he]; exact hA x y x0 x1 y0 y1 (by omega))) (by omega)
      exact loop 50 0 h _ (by omega) (by omega) hM hW (fun x y x0 x1 y0 y1 hxy => absurd hxy (by omega)) (by omega)
    · skip
      refine g_iconst (pc' := 25) hX dX4_resize_24 rfl ?_
      refine g_goto (tgt := 29) hX dX4_resize_25 (by decide) ?_
      refine gV1I0 (pc' := 32) hX dX4_resize_29 ml_X4_118 gc_X4 hM.1.h0 hM.1.hk (c_m_wrong hM (by omega)) (Nat.le_of_ble_eq_true rfl) (by decide) rfl (fun r29 w29 q29 => ?_)
      obtain ⟨hM, hWA, hR, h4, hr29⟩ := q29
      have hI := hM.1
      have hW : Fr (zB mo) w29 w29 := Fr.rf
      have e0 : r29 = 1 := by omega
      subst e0
      clear hr29
      skip
      refine g_if_eq (pc' := 35) (tgt := 37) hX dX4_resize_32 (by decide) rfl (by omega) (fun h32 => absurd h32 (by omega)) (fun h32 => ?_)
      refine g_iconst (pc' := 36) hX dX4_resize_35 rfl ?_
      exact g_retI hX hF dX4_resize_36 (mP.bad hWA h4 (by omega) (by omega) hM)

theorem c_mo_setCost {r c v : Int} (hM : MM E mo n m h sn sm sh e w) (br : -2147483648 ≤ r ∧ r ≤ 2147483647) (bc : -2147483648 ≤ c ∧ c ≤ 2147483647) (bv : -2147483648 ≤ v ∧ v ≤ 2147483647)  : Call E mX4_setCost 2 0 0 [vR mo, vI r, vI c, vI v] w (qI (mP mo w ((if ¬ (0 ≤ r ∧ r ≤ n - 1 ∧ 0 ≤ c ∧ c ≤ m - 1) then 1 else if ¬ (0 ≤ v ∧ v ≤ 99) then 2 else 0)) (hno (h r c)) (fun w' => MM E mo n m (fun i j => if i = r ∧ j = c then hhd v (hfg (h i j)) else h i j) sn sm sh e.off w') (fun w' => MM E mo n m h sn sm sh e w'))) := by
  refine call_of (av := [(1, mo), (0, r), (0, c), (0, v)]) (by decide +kernel) rfl (Nat.le_of_ble_eq_true rfl) ?_
  intro X hX hF hname
  show GG X 0 0 w 0 [(1, mo), (0, r), (0, c), (0, v), (9, 0)] []
  have hb := hM.1.b
  have hsb := hM.2.1.2
  skip
  refine g_aload_n (pc' := 1) hX dX4_setCost_0 rfl rfl ?_
  refine g_aload_n (pc' := 2) hX dX4_setCost_1 rfl rfl ?_
  refine g_iload_n (pc' := 3) hX dX4_setCost_2 rfl rfl ?_
  refine gV1E0 (pc' := 6) hX dX4_setCost_3 ml_X4_122 gc_X4 hM.1.h0 hM.1.hk (c_m_isRow hM.1 (by omega)) (Nat.le_of_ble_eq_true rfl) (by decide) rfl ?_
  refine g_if_eq (pc' := 9) (tgt := 17) hX dX4_setCost_6 (by decide) rfl (by omega) (fun h6 => ?_) (fun h6 => ?_)
  · skip
    refine g_iconst (pc' := 18) hX dX4_setCost_17 rfl ?_
    refine g_goto (tgt := 38) hX dX4_setCost_18 (by decide) ?_
    refine gV1I0 (pc' := 41) hX dX4_setCost_38 ml_X4_118 gc_X4 hM.1.h0 hM.1.hk (c_m_wrong hM (by omega)) (Nat.le_of_ble_eq_true rfl) (by decide) rfl (fun r38 w38 q38 => ?_)
    obtain ⟨hM, hWA, hR, h4, hr38⟩ := q38
    have hI := hM.1
    have hW : Fr (zB mo) w38 w38 := Fr.rf
    have e0 : r38 = 1 := by omega
    subst e0
    clear hr38
    skip
    refine g_if_eq (pc' := 44) (tgt := 46) hX dX4_setCost_41 (by decide) rfl (by omega) (fun h41 => absurd h41 (by omega)) (fun h41 => ?_)
    refine g_iconst (pc' := 45) hX dX4_setCost_44 rfl ?_
    exact g_retI hX hF dX4_setCost_45 (mP.bad hWA h4 (by omega) (by omega) hM)
  · skip
    refine g_aload_n (pc' := 10) hX dX4_setCost_9 rfl rfl ?_
    refine g_iload_n (pc' := 11) hX dX4_setCost_10 rfl rfl ?_
    refine gV1E0 (pc' := 14) hX dX4_setCost_11 ml_X4_125 gc_X4 hM.1.h0 hM.1.hk (c_m_isReal hM.1 (by omega)) (Nat.le_of_ble_eq_true rfl) (by decide) rfl ?_
    refine g_if_ne (pc' := 17) (tgt := 21) hX dX4_setCost_14 (by decide) rfl (by omega) (fun h14 => ?_) (fun h14 => ?_)
    · skip
      refine g_iload_n (pc' := 22) hX dX4_setCost_21 rfl rfl ?_
      refine g_i2l (pc' := 23) hX dX4_setCost_22 (by omega) rfl ?_
      refine g_lconst (pc' := 24) (v := 0) hX dX4_setCost_23 rfl rfl ?_
      refine g_ldc2 (pc' := 27) (n := 99) hX dX4_setCost_24 q1619 rfl rfl ?_
      refine gS3E0 (pc' := 30) hX dX4_setCost_27 ml_X4_63 (c_m_isIn (by omega) (by omega) (by omega)) (Nat.le_of_ble_eq_true rfl) (by decide) rfl ?_
      refine g_if_ne (pc' := 33) (tgt := 37) hX dX4_setCost_30 (by decide) rfl (by omega) (fun h30 => ?_) (fun h30 => ?_)
      · skip
        refine g_iconst (pc' := 38) hX dX4_setCost_37 rfl ?_
        refine gV1I0 (pc' := 41) hX dX4_setCost_38 ml_X4_118 gc_X4 hM.1.h0 hM.1.hk (c_m_wrong hM (by omega)) (Nat.le_of_ble_eq_true rfl) (by decide) rfl (fun r38 w38 q38 => ?_)
        obtain ⟨hM, hWA, hR, h4, hr38⟩ := q38
        have hI := hM.1
        have hW : Fr (zB mo) w38 w38 := Fr.rf
        have e0 : r38 = 0 := by omega
        subst e0
        clear hr38
        skip
        refine g_if_eq (pc' := 44) (tgt := 46) hX dX4_setCost_41 (by decide) rfl (by omega) (fun h41 => ?_) (fun h41 => absurd h41 (by omega))
        refine g_aload_n (pc' := 47) hX dX4_setCost_46 rfl rfl ?_
        refine gf_X4_22 (pc' := 50) hX dX4_setCost_47 hM.1.h0 hM.1.hk rfl ?_
        rw [hM.1.f 5 (by decide) (show moF 5 = 1 by decide)]
        refine g_bipush (pc' := 52) hX dX4_setCost_50 rfl rfl ?_
        refine g_iload_n (pc' := 53) hX dX4_setCost_52 rfl rfl ?_
        refine g_imul (pc' := 54) hX dX4_setCost_53 rfl ?_
        refine g_iload_n (pc' := 55) hX dX4_setCost_54 rfl rfl ?_
        refine g_iadd (pc' := 56) hX dX4_setCost_55 rfl ?_
        refine g_ialdL (pc' := 57) hX dX4_setCost_56 (by have := hM.1.h0; omega) (hM.1.k 1 (by decide) (show moK 1 = 50 by decide)) (hM.1.l 1 (by decide) (show moN 1 = 49 by decide)) (by omega) rfl ?_
        rw [hM.2.2.1.v r c (by omega) (by omega)]
        refine g_istore_4 (pc' := 59) hX dX4_setCost_57 (by decide) rfl rfl ?_
        refine g_aload_n (pc' := 60) hX dX4_setCost_59 rfl rfl ?_
        refine gf_X4_22 (pc' := 63) hX dX4_setCost_60 hM.1.h0 hM.1.hk rfl ?_
        rw [hM.1.f 5 (by decide) (show moF 5 = 1 by decide)]
        refine g_bipush (pc' := 65) hX dX4_setCost_63 rfl rfl ?_
        refine g_iload_n (pc' := 66) hX dX4_setCost_65 rfl rfl ?_
        refine g_imul (pc' := 67) hX dX4_setCost_66 rfl ?_
        refine g_iload_n (pc' := 68) hX dX4_setCost_67 rfl rfl ?_
        refine g_iadd (pc' := 69) hX dX4_setCost_68 rfl ?_
        refine g_iload_n (pc' := 70) hX dX4_setCost_69 rfl rfl ?_
        refine g_iastL (pc' := 71) hX dX4_setCost_70 (by have := hM.1.hb; omega) (hM.1.k 1 (by decide) (show moK 1 = 50 by decide)) (hM.1.l 1 (by decide) (show moN 1 = 49 by decide)) (by omega) rfl ?_
        refine hM.stN hW (by omega) (by unfold zB; omega) (fun hM hW => ?_)
        refine g_aload_n (pc' := 72) hX dX4_setCost_71 rfl rfl ?_
        refine g_iconst (pc' := 73) hX dX4_setCost_72 rfl ?_
        refine pf_X4_48 (pc' := 76) hX dX4_setCost_73 hM.1.hb hM.1.hk rfl ?_
        refine hM.stO hW (by unfold zB; omega) (fun hM hW => ?_)
        refine g_iload (pc' := 78) hX dX4_setCost_76 rfl rfl ?_
        exact g_retI hX hF dX4_setCost_78 (mP.okB hWA hW h4 (by omega) (hM.cg (fun i j i0 i1 j0 j1 => by split <;> split <;> first | rfl | omega)) (rfl))
      · skip
        refine g_iconst (pc' := 34) hX dX4_setCost_33 rfl ?_
        refine g_goto (tgt := 38) hX dX4_setCost_34 (by decide) ?_
        refine gV1I0 (pc' := 41) hX dX4_setCost_38 ml_X4_118 gc_X4 hM.1.h0 hM.1.hk (c_m_wrong hM (by omega)) (Nat.le_of_ble_eq_true rfl) (by decide) rfl (fun r38 w38 q38 => ?_)
        obtain ⟨hM, hWA, hR, h4, hr38⟩ := q38
        have hI := hM.1
        have hW : Fr (zB mo) w38 w38 := Fr.rf
        have e0 : r38 = 1 := by omega
        subst e0
        clear hr38
        skip
        refine g_if_eq (pc' := 44) (tgt := 46) hX dX4_setCost_41 (by decide) rfl (by omega) (fun h41 => absurd h41 (by omega)) (fun h41 => ?_)
        refine g_iconst (pc' := 45) hX dX4_setCost_44 rfl ?_
        exact g_retI hX hF dX4_setCost_45 (mP.bad hWA h4 (by omega) (by omega) hM)
    · skip
      refine g_iconst (pc' := 18) hX dX4_setCost_17 rfl ?_
      refine g_goto (tgt := 38) hX dX4_setCost_18 (by decide) ?_
      refine gV1I0 (pc' := 41) hX dX4_setCost_38 ml_X4_118 gc_X4 hM.1.h0 hM.1.hk (c_m_wrong hM (by omega)) (Nat.le_of_ble_eq_true rfl) (by decide) rfl (fun r38 w38 q38 => ?_)
      obtain ⟨hM, hWA, hR, h4, hr38⟩ := q38
      have hI := hM.1
      have hW : Fr (zB mo) w38 w38 := Fr.rf
      have e0 : r38 = 1 := by omega
      subst e0
      clear hr38
      skip
      refine g_if_eq (pc' := 44) (tgt := 46) hX dX4_setCost_41 (by decide) rfl (by omega) (fun h41 => absurd h41 (by omega)) (fun h41 => ?_)
      refine g_iconst (pc' := 45) hX dX4_setCost_44 rfl ?_
      exact g_retI hX hF dX4_setCost_45 (mP.bad hWA h4 (by omega) (by omega) hM)

def pw : Nat → Int
  | 0 => 1
  | k + 1 => pw k * 100
theorem pw_b : ∀ k, k < 8 → 1 ≤ pw k ∧ pw k ≤ 100000000000000 := by decide +kernel
def sdl (p : Int) : Nat → Int × Int
  | 0 => (p, 99)
  | k + 1 => ((sdl p k).1 / 100, if (sdl p k).1 % 100 < (sdl p k).2 then (sdl p k).1 % 100 else (sdl p k).2)
theorem sdl_b {p : Int} (h : 0 ≤ p) : ∀ k, (0 ≤ (sdl p k).1 ∧ (sdl p k).1 ≤ p) ∧ (0 ≤ (sdl p k).2 ∧ (sdl p k).2 ≤ 99)
  | 0 => ⟨⟨h, Int.le_refl _⟩, by simp [sdl]⟩
  | k + 1 => by
    have h1 := sdl_b h k
    unfold sdl
    simp only []
    refine ⟨by omega, ?_⟩
    split <;> omega
/-- digit of a column, and the table with a row of digits -/
def dg2 (m p j : Int) : Int := (sdl p (m - 1 - j).toNat).1 % 100
def fx (s : Int) : Nat → Int
  | 0 => s
  | k + 1 => (37 * fx s k + 11) % 10007
theorem fx_b {s : Int} (h : 0 ≤ s ∧ s ≤ 9999) : ∀ k, 0 ≤ fx s k ∧ fx s k ≤ 10006
  | 0 => by simp [fx]; omega
  | k + 1 => by
    have h1 := fx_b h k
    unfold fx; omega
def cF (n m : Int) (h : Int → Int → Int) : Int := sm' n.toNat (fun i => sm' m.toNat (fun j => hfg (h i j)))
def rS (n m : Int) (h : Int → Int → Int) (r : Int) : Int := sm' n.toNat (tC m h r)
def clS (n m : Int) (h : Int → Int → Int) (c : Int) : Int := sm' n.toNat (fun i => tC m h i c)
def tS (n m : Int) (h : Int → Int → Int) : Int := sm' n.toNat (rS n m h)
def tk (h : Int → Int → Int) (v r c : Int) : Int := if 0 ≤ h r c ∧ 0 ≤ h r c + v ∧ h r c + v ≤ 99 then 1 else 0
theorem tk_01 {h : Int → Int → Int} {v r c : Int} : tk h v r c = 0 ∨ tk h v r c = 1 := by unfold tk; split <;> simp
/-- all of the first k are 1 -/
def al (f : Int → Int) : Nat → Int
  | 0 => 1
  | k + 1 => if al f k = 1 ∧ f k = 1 then 1 else 0
theorem al_01 {f : Int → Int} : ∀ k, al f k = 0 ∨ al f k = 1
  | 0 => Or.inr rfl
  | k + 1 => by unfold al; split <;> simp
theorem al_s {f : Int → Int} {j : Int} (h : 0 ≤ j) : al f (j + 1).toNat = if al f j.toNat = 1 ∧ f j = 1 then 1 else 0 := by
  rw [show (j + 1).toNat = j.toNat + 1 by omega]
  show (if al f j.toNat = 1 ∧ f (j.toNat : Int) = 1 then 1 else 0) = _
  rw [Int.toNat_of_nonneg h]
theorem and01 {x y : Int} (hx : x = 0 ∨ x = 1) (hy : y = 0 ∨ y = 1) : Int32.ofInt x &&& Int32.ofInt y = Int32.ofInt (if x = 1 ∧ y = 1 then 1 else 0) := by
  rcases hx with rfl | rfl <;> rcases hy with rfl | rfl <;> decide
def ab (x : Int) : Int := if x < 0 then -x else x
theorem hh0 {P : Prop} [Decidable P] {v f x : Int} (hv : 0 ≤ v) : (if P then hhd (hno (if P then hhd v f else x)) 0 else (if P then hhd v f else x)) = if P then v else x := by
  by_cases hp : P
  · simp only [if_pos hp]; rw [hno_hd hv]; rfl
  · simp only [if_neg hp]
def dS (n m : Int) (h : Int → Int → Int) (sn sm : Int) (sh : Int → Int → Int) : Int := if n = sn ∧ m = sm then sm' n.toNat (fun i => sm' n.toNat (fun j => ab (tC m h i j - tC sm sh i j))) else -1
theorem c_mo_setRow {r p : Int} (hM : MM E mo n m h sn sm sh e w) (br : -2147483648 ≤ r ∧ r ≤ 2147483647) (bp : -9223372036854775808 ≤ p ∧ p ≤ 9223372036854775807)  : Call E mX4_setRow 2 0 0 [vR mo, vI r, vL p] w (qI (mP mo w (if ¬ (0 ≤ r ∧ r ≤ n - 1) then 1 else if ¬ (0 ≤ p ∧ p < pw m.toNat) then 2 else 0) ((sdl p m.toNat).2) (fun w' => MM E mo n m (fun i j => if i = r ∧ 0 ≤ j ∧ j < m then hhd (dg2 m p j) (hfg (h i j)) else h i j) sn sm sh e.off w') (fun w' => MM E mo n m h sn sm sh e w'))) := by
  refine call_of (av := [(1, mo), (0, r), (2, p)]) (by decide +kernel) rfl (Nat.le_of_ble_eq_true rfl) ?_
  intro X hX hF hname
  show GG X 0 0 w 0 [(1, mo), (0, r), (2, p), (9, 0), (9, 0), (9, 0), (9, 0), (9, 0), (9, 0), (9, 0), (9, 0)] []
  have hb := hM.1.b
  have hsb := hM.2.1.2
  skip
  refine g_lconst (pc' := 1) (v := 1) hX dX4_setRow_0 rfl rfl ?_
  refine g_lstore_4 (pc' := 3) hX dX4_setRow_1 (by decide) rfl rfl ?_
  refine g_iconst (pc' := 4) hX dX4_setRow_3 rfl ?_
  refine g_istore_6 (pc' := 6) hX dX4_setRow_4 (by decide) rfl rfl ?_
  have loop : ∀ (f : Nat) (k z : Int), 0 ≤ k → k ≤ m → z = pw k.toNat → m < k + f → GG X 0 0 w 6 [(1, mo), (0, r), (2, p), (9, 0), (2, z), (9, 0), (0, k), (9, 0), (9, 0), (9, 0), (9, 0)] [] := by
    intro f
    induction f with
    | zero => intro k z h0 h1 hz hf; exact absurd hf (by omega)
    | succ f ih =>
      intro k z h0 h1 hz hf
      refine g_iload (pc' := 8) hX dX4_setRow_6 rfl rfl ?_
      refine g_aload_n (pc' := 9) hX dX4_setRow_8 rfl rfl ?_
      refine gf_X4_13 (pc' := 12) hX dX4_setRow_9 hM.1.h0 hM.1.hk rfl ?_
      rw [hM.1.vm]
      refine g_icmp_ge (pc' := 15) (tgt := 29) hX dX4_setRow_12 (by decide) rfl (by omega) (by omega) (fun h12 => ?_) (fun h12 => ?_)
      · skip
        rw [show k = m by omega] at hz
        subst hz
        have hpw := pw_b m.toNat (by omega)
        refine g_aload_n (pc' := 30) hX dX4_setRow_29 rfl rfl ?_
        refine g_aload_n (pc' := 31) hX dX4_setRow_30 rfl rfl ?_
        refine g_iload_n (pc' := 32) hX dX4_setRow_31 rfl rfl ?_
        refine gV1E0 (pc' := 35) hX dX4_setRow_32 ml_X4_122 gc_X4 hM.1.h0 hM.1.hk (c_m_isRow hM.1 (by omega)) (Nat.le_of_ble_eq_true rfl) (by decide) rfl ?_
        refine g_if_ne (pc' := 38) (tgt := 42) hX dX4_setRow_35 (by decide) rfl (by omega) (fun h35 => ?_) (fun h35 => ?_)
        · skip
          refine g_lload_n (pc' := 43) hX dX4_setRow_42 rfl rfl ?_
          refine g_lconst (pc' := 44) (v := 0) hX dX4_setRow_43 rfl rfl ?_
          refine g_lcmp (pc' := 45) hX dX4_setRow_44 (by omega) (by omega) rfl ?_
          refine g_if_lt (pc' := 48) (tgt := 55) hX dX4_setRow_45 (by decide) rfl lcmp_rng (fun h45 => ?_) (fun h45 => ?_)
          · skip
            rw [lcmp_lt0] at h45
            refine g_iconst (pc' := 56) hX dX4_setRow_55 rfl ?_
            refine g_goto (tgt := 60) hX dX4_setRow_56 (by decide) ?_
            refine gV1I0 (pc' := 63) hX dX4_setRow_60 ml_X4_118 gc_X4 hM.1.h0 hM.1.hk (c_m_wrong hM (by omega)) (Nat.le_of_ble_eq_true rfl) (by decide) rfl (fun r60 w60 q60 => ?_)
            obtain ⟨hM, hWA, hR, h4, hr60⟩ := q60
            have hI := hM.1
            have hW : Fr (zB mo) w60 w60 := Fr.rf
            have e0 : r60 = 1 := by omega
            subst e0
            clear hr60
            have hsb0 := sdl_b (p := p)
            refine g_if_eq (pc' := 66) (tgt := 68) hX dX4_setRow_63 (by decide) rfl (by omega) (fun h63 => absurd h63 (by omega)) (fun h63 => ?_)
            refine g_iconst (pc' := 67) hX dX4_setRow_66 rfl ?_
            exact g_retI hX hF dX4_setRow_67 (mP.bad hWA h4 (by omega) (by omega) hM)
          · skip
            rw [lcmp_lt0] at h45
            refine g_lload_n (pc' := 49) hX dX4_setRow_48 rfl rfl ?_
            refine g_lload (pc' := 51) hX dX4_setRow_49 rfl rfl ?_
            refine g_lcmp (pc' := 52) hX dX4_setRow_51 (by omega) (by omega) rfl ?_
            refine g_if_lt (pc' := 55) (tgt := 59) hX dX4_setRow_52 (by decide) rfl lcmp_rng (fun h52 => ?_) (fun h52 => ?_)
            · skip
              rw [lcmp_lt0] at h52
              refine g_iconst (pc' := 60) hX dX4_setRow_59 rfl ?_
              refine gV1I0 (pc' := 63) hX dX4_setRow_60 ml_X4_118 gc_X4 hM.1.h0 hM.1.hk (c_m_wrong hM (by omega)) (Nat.le_of_ble_eq_true rfl) (by decide) rfl (fun r60 w60 q60 => ?_)
              obtain ⟨hM, hWA, hR, h4, hr60⟩ := q60
              have hI := hM.1
              have hW : Fr (zB mo) w60 w60 := Fr.rf
              have e0 : r60 = 0 := by omega
              subst e0
              clear hr60
              have hsb0 := sdl_b (p := p)
              refine g_if_eq (pc' := 66) (tgt := 68) hX dX4_setRow_63 (by decide) rfl (by omega) (fun h63 => ?_) (fun h63 => absurd h63 (by omega))
              refine g_lload_n (pc' := 69) hX dX4_setRow_68 rfl rfl ?_
              refine g_lstore_6 (pc' := 71) hX dX4_setRow_69 (by decide) rfl rfl ?_
              refine g_bipush (pc' := 73) hX dX4_setRow_71 rfl rfl ?_
              refine g_istore_8 (pc' := 75) hX dX4_setRow_73 (by decide) rfl rfl ?_
              refine g_aload_n (pc' := 76) hX dX4_setRow_75 rfl rfl ?_
              refine gf_X4_13 (pc' := 79) hX dX4_setRow_76 hM.1.h0 hM.1.hk rfl ?_
              rw [hM.1.vm]
              refine g_iconst (pc' := 80) hX dX4_setRow_79 rfl ?_
              refine g_isub (pc' := 81) hX dX4_setRow_80 rfl ?_
              refine g_istore_9 (pc' := 83) hX dX4_setRow_81 (by decide) rfl rfl ?_
              have loop : ∀ (f : Nat) (j : Int) (h1 : Int → Int → Int) (w1 : Wd) (x10 : Nat × Int), -1 ≤ j → j ≤ m - 1 → MM E mo n m h1 sn sm sh e w1 → Fr (zB mo) w60 w1 → (∀ x y : Int, 0 ≤ x → x < 7 → 0 ≤ y → y < 7 → h1 x y = if x = r ∧ j < y ∧ y < m then hhd (dg2 m p y) (hfg (h x y)) else h x y) → (x10 = (9, 0) ∨ x10.1 = 0) → j + 1 < f → GG X 0 0 w1 83 [(1, mo), (0, r), (2, p), (9, 0), (2, pw m.toNat), (9, 0), (2, (sdl p (m - 1 - j).toNat).1), (9, 0), (0, (sdl p (m - 1 - j).toNat).2), (0, j), x10] [] := by
                intro f
                induction f with
                | zero => intro j h1 w1 x10 h0 h7 hM hW hA h10 hf; exact absurd hf (by omega)
                | succ f ih =>
                  intro j h1 w1 x10 h0 h7 hM hW hA h10 hf
                  have hsb2 := sdl_b (p := p) (by omega) (m - 1 - j).toNat
                  refine g_iload (pc' := 85) hX dX4_setRow_83 rfl rfl ?_
                  refine g_if_lt (pc' := 88) (tgt := 141) hX dX4_setRow_85 (by decide) rfl (by omega) (fun h85 => ?_) (fun h85 => ?_)
                  · skip
                    refine g_aload_n (pc' := 142) hX dX4_setRow_141 rfl rfl ?_
                    refine g_iconst (pc' := 143) hX dX4_setRow_142 rfl ?_
                    refine pf_X4_48 (pc' := 146) hX dX4_setRow_143 hM.1.hb hM.1.hk rfl ?_
                    refine hM.stO hW (by unfold zB; omega) (fun hM hW => ?_)
                    refine g_iload (pc' := 148) hX dX4_setRow_146 rfl rfl ?_
                    exact g_retI hX hF dX4_setRow_148 (mP.okB hWA hW h4 (by omega) (hM.cg (fun x y x0 x1 y0 y1 => by rw [hA x y x0 x1 y0 y1]; (repeat' split) <;> first | rfl | omega)) (by rw [show j = -1 by omega, show (m - 1 - (-1)).toNat = m.toNat by omega]))
                  · skip
                    refine g_lload (pc' := 90) hX dX4_setRow_88 rfl rfl ?_
                    refine g_ldc2 (pc' := 93) (n := 100) hX dX4_setRow_90 q1624 rfl rfl ?_
                    refine g_lremP (pc' := 94) hX dX4_setRow_93 (by omega) (by omega) rfl ?_
                    refine g_l2i (pc' := 95) hX dX4_setRow_94 rfl ?_
                    refine g_istore_10 (pc' := 97) hX dX4_setRow_95 (by decide) rfl rfl ?_
                    refine g_lload (pc' := 99) hX dX4_setRow_97 rfl rfl ?_
                    refine g_ldc2 (pc' := 102) (n := 100) hX dX4_setRow_99 q1624 rfl rfl ?_
                    refine g_ldivP (pc' := 103) hX dX4_setRow_102 (by omega) (by omega) rfl ?_
                    refine g_lstore_6 (pc' := 105) hX dX4_setRow_103 (by decide) rfl rfl ?_
                    refine g_aload_n (pc' := 106) hX dX4_setRow_105 rfl rfl ?_
                    refine gf_X4_22 (pc' := 109) hX dX4_setRow_106 hM.1.h0 hM.1.hk rfl ?_
                    rw [hM.1.f 5 (by decide) (show moF 5 = 1 by decide)]
                    refine g_bipush (pc' := 111) hX dX4_setRow_109 rfl rfl ?_
                    refine g_iload_n (pc' := 112) hX dX4_setRow_111 rfl rfl ?_
                    refine g_imul (pc' := 113) hX dX4_setRow_112 rfl ?_
                    refine g_iload (pc' := 115) hX dX4_setRow_113 rfl rfl ?_
                    refine g_iadd (pc' := 116) hX dX4_setRow_115 rfl ?_
                    refine g_iload (pc' := 118) hX dX4_setRow_116 rfl rfl ?_
                    refine g_iastL (pc' := 119) hX dX4_setRow_118 (by have := hM.1.hb; omega) (hM.1.k 1 (by decide) (show moK 1 = 50 by decide)) (hM.1.l 1 (by decide) (show moN 1 = 49 by decide)) (by omega) rfl ?_
                    refine hM.stN hW (by omega) (by unfold zB; omega) (fun hM hW => ?_)
                    refine g_iload (pc' := 121) hX dX4_setRow_119 rfl rfl ?_
                    refine g_iload (pc' := 123) hX dX4_setRow_121 rfl rfl ?_
                    refine g_icmp_ge (pc' := 126) (tgt := 131) hX dX4_setRow_123 (by decide) rfl (by omega) (by omega) (fun h123 => ?_) (fun h123 => ?_)
                    · skip
                      refine g_iload (pc' := 133) hX dX4_setRow_131 rfl rfl ?_
                      refine g_istore_8 (pc' := 135) hX dX4_setRow_133 (by decide) rfl rfl ?_
                      refine g_iinc_9 (pc' := 138) hX dX4_setRow_135 (by decide) rfl rfl ?_
                      refine g_goto (tgt := 83) hX dX4_setRow_138 (by decide) ?_
                      have ex := ih (j + -1) _ _ (0, (sdl p (m - 1 - j).toNat).1 % 100) (by omega) (by omega) hM hW (fun x y x0 x1 y0 y1 => by
                        have hj := hA x y x0 x1 y0 y1
                        by_cases he : 7 * x + y = 7 * r + j
                        · simp only [if_pos he]
                          rw [if_neg (show ¬ (x = r ∧ j < y ∧ y < m) by omega)] at hj
                          rw [if_pos (show x = r ∧ j + -1 < y ∧ y < m by omega), hj, show y = j by omega]; rfl
                        · simp only [if_neg he]
                          rw [hj]
                          (repeat' split) <;> first | rfl | omega) (Or.inr rfl) (by omega)
                      rw [show (m - 1 - (j + -1)).toNat = (m - 1 - j).toNat + 1 by omega] at ex
                      simp only [sdl] at ex
                      first
                        | (rw [if_pos (by omega)] at ex; exact ex)
                        | (rw [if_neg (by omega)] at ex; exact ex)
                    · skip
                      refine g_iload (pc' := 128) hX dX4_setRow_126 rfl rfl ?_
                      refine g_goto (tgt := 133) hX dX4_setRow_128 (by decide) ?_
                      refine g_istore_8 (pc' := 135) hX dX4_setRow_133 (by decide) rfl rfl ?_
                      refine g_iinc_9 (pc' := 138) hX dX4_setRow_135 (by decide) rfl rfl ?_
                      refine g_goto (tgt := 83) hX dX4_setRow_138 (by decide) ?_
                      have ex := ih (j + -1) _ _ (0, (sdl p (m - 1 - j).toNat).1 % 100) (by omega) (by omega) hM hW (fun x y x0 x1 y0 y1 => by
                        have hj := hA x y x0 x1 y0 y1
                        by_cases he : 7 * x + y = 7 * r + j
                        · simp only [if_pos he]
                          rw [if_neg (show ¬ (x = r ∧ j < y ∧ y < m) by omega)] at hj
                          rw [if_pos (show x = r ∧ j + -1 < y ∧ y < m by omega), hj, show y = j by omega]; rfl
                        · simp only [if_neg he]
                          rw [hj]
                          (repeat' split) <;> first | rfl | omega) (Or.inr rfl) (by omega)
                      rw [show (m - 1 - (j + -1)).toNat = (m - 1 - j).toNat + 1 by omega] at ex
                      simp only [sdl] at ex
                      first
                        | (rw [if_pos (by omega)] at ex; exact ex)
                        | (rw [if_neg (by omega)] at ex; exact ex)
              have ex := loop 8 (m - 1) h w60 (9, 0) (by omega) (by omega) hM hW (fun x y x0 x1 y0 y1 => by rw [if_neg (by omega)]) (Or.inl rfl) (by omega)
              rw [show (m - 1 - (m - 1)).toNat = 0 by omega] at ex
              exact ex
            · skip
              rw [lcmp_lt0] at h52
              refine g_iconst (pc' := 56) hX dX4_setRow_55 rfl ?_
              refine g_goto (tgt := 60) hX dX4_setRow_56 (by decide) ?_
              refine gV1I0 (pc' := 63) hX dX4_setRow_60 ml_X4_118 gc_X4 hM.1.h0 hM.1.hk (c_m_wrong hM (by omega)) (Nat.le_of_ble_eq_true rfl) (by decide) rfl (fun r60 w60 q60 => ?_)
              obtain ⟨hM, hWA, hR, h4, hr60⟩ := q60
              have hI := hM.1
              have hW : Fr (zB mo) w60 w60 := Fr.rf
              have e0 : r60 = 1 := by omega
              subst e0
              clear hr60
              have hsb0 := sdl_b (p := p)
              refine g_if_eq (pc' := 66) (tgt := 68) hX dX4_setRow_63 (by decide) rfl (by omega) (fun h63 => absurd h63 (by omega)) (fun h63 => ?_)
              refine g_iconst (pc' := 67) hX dX4_setRow_66 rfl ?_
              exact g_retI hX hF dX4_setRow_67 (mP.bad hWA h4 (by omega) (by omega) hM)
        · skip
          refine g_iconst (pc' := 39) hX dX4_setRow_38 rfl ?_
          refine g_goto (tgt := 60) hX dX4_setRow_39 (by decide) ?_
          refine gV1I0 (pc' := 63) hX dX4_setRow_60 ml_X4_118 gc_X4 hM.1.h0 hM.1.hk (c_m_wrong hM (by omega)) (Nat.le_of_ble_eq_true rfl) (by decide) rfl (fun r60 w60 q60 => ?_)
          obtain ⟨hM, hWA, hR, h4, hr60⟩ := q60
          have hI := hM.1
          have hW : Fr (zB mo) w60 w60 := Fr.rf
          have e0 : r60 = 1 := by omega
          subst e0
          clear hr60
          have hsb0 := sdl_b (p := p)
          refine g_if_eq (pc' := 66) (tgt := 68) hX dX4_setRow_63 (by decide) rfl (by omega) (fun h63 => absurd h63 (by omega)) (fun h63 => ?_)
          refine g_iconst (pc' := 67) hX dX4_setRow_66 rfl ?_
          exact g_retI hX hF dX4_setRow_67 (mP.bad hWA h4 (by omega) (by omega) hM)
      · skip
        refine g_lload (pc' := 17) hX dX4_setRow_15 rfl rfl ?_
        refine g_ldc2 (pc' := 20) (n := 100) hX dX4_setRow_17 q1624 rfl rfl ?_
        refine g_lmul (pc' := 21) hX dX4_setRow_20 rfl ?_
        refine g_lstore_4 (pc' := 23) hX dX4_setRow_21 (by decide) rfl rfl ?_
        refine g_iinc_6 (pc' := 26) hX dX4_setRow_23 (by decide) rfl rfl ?_
        refine g_goto (tgt := 6) hX dX4_setRow_26 (by decide) ?_
        exact ih (k + 1) _ (by omega) (by omega) (by rw [hz, show (k + 1).toNat = k.toNat + 1 by omega]; rfl) (by omega)
  exact loop 8 0 1 (by omega) (by omega) rfl (by omega)

theorem c_mo_fill {a b : Int} (hM : MM E mo n m h sn sm sh e w) (ba : -2147483648 ≤ a ∧ a ≤ 2147483647) (bb : -2147483648 ≤ b ∧ b ≤ 2147483647)  : Call E mX4_fill 1 0 0 [vR mo, vI a, vI b] w (qI (mP mo w (if 0 ≤ a ∧ a ≤ 9999 ∧ 0 ≤ b ∧ b ≤ 99 then 0 else 1) (sm' (n * m).toNat (fun u => fx a (u + 1).toNat % (b + 1))) (fun w' => MM E mo n m (fun i j => if 0 ≤ i ∧ i < n ∧ 0 ≤ j ∧ j < m then fx a (i * m + j + 1).toNat % (b + 1) else h i j) sn sm sh e.off w') (fun w' => MM E mo n m h sn sm sh e w'))) := by
  refine call_of (av := [(1, mo), (0, a), (0, b)]) (by decide +kernel) rfl (Nat.le_of_ble_eq_true rfl) ?_
  intro X hX hF hname
  show GG X 0 0 w 0 [(1, mo), (0, a), (0, b), (9, 0), (9, 0), (9, 0), (9, 0)] []
  have hb := hM.1.b
  have hsb := hM.2.1.2
  skip
  refine g_aload_n (pc' := 1) hX dX4_fill_0 rfl rfl ?_
  refine g_iload_n (pc' := 2) hX dX4_fill_1 rfl rfl ?_
  refine g_i2l (pc' := 3) hX dX4_fill_2 (by omega) rfl ?_
  refine g_lconst (pc' := 4) (v := 0) hX dX4_fill_3 rfl rfl ?_
  refine g_ldc2 (pc' := 7) (n := 9999) hX dX4_fill_4 q1629 rfl rfl ?_
  refine gS3E0 (pc' := 10) hX dX4_fill_7 ml_X4_63 (c_m_isIn (by omega) (by omega) (by omega)) (Nat.le_of_ble_eq_true rfl) (by decide) rfl ?_
  refine g_if_eq (pc' := 13) (tgt := 25) hX dX4_fill_10 (by decide) rfl (by omega) (fun h10 => ?_) (fun h10 => ?_)
  · skip
    refine g_iconst (pc' := 26) hX dX4_fill_25 rfl ?_
    refine g_goto (tgt := 30) hX dX4_fill_26 (by decide) ?_
    refine gV1I0 (pc' := 33) hX dX4_fill_30 ml_X4_118 gc_X4 hM.1.h0 hM.1.hk (c_m_wrong hM (by omega)) (Nat.le_of_ble_eq_true rfl) (by decide) rfl (fun r30 w30 q30 => ?_)
    obtain ⟨hM, hWA, hR, h4, hr30⟩ := q30
    have hI := hM.1
    have hW : Fr (zB mo) w30 w30 := Fr.rf
    have e0 : r30 = 1 := by omega
    subst e0
    clear hr30
    skip
    refine g_if_eq (pc' := 36) (tgt := 38) hX dX4_fill_33 (by decide) rfl (by omega) (fun h33 => absurd h33 (by omega)) (fun h33 => ?_)
    refine g_iconst (pc' := 37) hX dX4_fill_36 rfl ?_
    exact g_retI hX hF dX4_fill_37 (mP.bad hWA h4 (by omega) (by omega) hM)
  · skip
    refine g_iload_n (pc' := 14) hX dX4_fill_13 rfl rfl ?_
    refine g_i2l (pc' := 15) hX dX4_fill_14 (by omega) rfl ?_
    refine g_lconst (pc' := 16) (v := 0) hX dX4_fill_15 rfl rfl ?_
    refine g_ldc2 (pc' := 19) (n := 99) hX dX4_fill_16 q1619 rfl rfl ?_
    refine gS3E0 (pc' := 22) hX dX4_fill_19 ml_X4_63 (c_m_isIn (by omega) (by omega) (by omega)) (Nat.le_of_ble_eq_true rfl) (by decide) rfl ?_
    refine g_if_ne (pc' := 25) (tgt := 29) hX dX4_fill_22 (by decide) rfl (by omega) (fun h22 => ?_) (fun h22 => ?_)
    · skip
      refine g_iconst (pc' := 30) hX dX4_fill_29 rfl ?_
      refine gV1I0 (pc' := 33) hX dX4_fill_30 ml_X4_118 gc_X4 hM.1.h0 hM.1.hk (c_m_wrong hM (by omega)) (Nat.le_of_ble_eq_true rfl) (by decide) rfl (fun r30 w30 q30 => ?_)
      obtain ⟨hM, hWA, hR, h4, hr30⟩ := q30
      have hI := hM.1
      have hW : Fr (zB mo) w30 w30 := Fr.rf
      have e0 : r30 = 0 := by omega
      subst e0
      clear hr30
      skip
      refine g_if_eq (pc' := 36) (tgt := 38) hX dX4_fill_33 (by decide) rfl (by omega) (fun h33 => ?_) (fun h33 => absurd h33 (by omega))
      refine g_iload_n (pc' := 39) hX dX4_fill_38 rfl rfl ?_
      refine g_istore_n_3 (pc' := 40) hX dX4_fill_39 (by decide) rfl rfl ?_
      refine g_iconst (pc' := 41) hX dX4_fill_40 rfl ?_
      refine g_istore_4 (pc' := 43) hX dX4_fill_41 (by decide) rfl rfl ?_
      refine g_iconst (pc' := 44) hX dX4_fill_43 rfl ?_
      refine g_istore_5 (pc' := 46) hX dX4_fill_44 (by decide) rfl rfl ?_
      have loop : ∀ (f : Nat) (i : Int) (h1 : Int → Int → Int) (w1 : Wd) (x6 : Nat × Int), 0 ≤ i → i ≤ n → MM E mo n m h1 sn sm sh e w1 → Fr (zB mo) w30 w1 → (∀ x y : Int, 0 ≤ x → x < 7 → 0 ≤ y → y < 7 → h1 x y = if (x < i ∨ (x = i ∧ y < 0)) ∧ y < m then fx a (x * m + y + 1).toNat % (b + 1) else h x y) → (x6 = (9, 0) ∨ x6 = (0, m)) → n < i + f → GG X 0 0 w1 46 [(1, mo), (0, a), (0, b), (0, fx a (i * m + 0).toNat), (0, sm' (i * m + 0).toNat (fun u => fx a (u + 1).toNat % (b + 1))), (0, i), x6] [] := by
        intro f
        induction f with
        | zero => intro i h1 w1 x6 h0 h7 hM hW hA h6 hf; exact absurd hf (by omega)
        | succ f ih =>
          intro i h1 w1 x6 h0 h7 hM hW hA h6 hf
          refine g_iload (pc' := 48) hX dX4_fill_46 rfl rfl ?_
          refine g_aload_n (pc' := 49) hX dX4_fill_48 rfl rfl ?_
          refine gf_X4_7 (pc' := 52) hX dX4_fill_49 hM.1.h0 hM.1.hk rfl ?_
          rw [hM.1.vn]
          refine g_icmp_ge (pc' := 55) (tgt := 141) hX dX4_fill_52 (by decide) rfl (by omega) (by omega) (fun h52 => ?_) (fun h52 => ?_)
          · skip
            refine g_aload_n (pc' := 142) hX dX4_fill_141 rfl rfl ?_
            refine g_iconst (pc' := 143) hX dX4_fill_142 rfl ?_
            refine pf_X4_48 (pc' := 146) hX dX4_fill_143 hM.1.hb hM.1.hk rfl ?_
            refine hM.stO hW (by unfold zB; omega) (fun hM hW => ?_)
            refine g_iload (pc' := 148) hX dX4_fill_146 rfl rfl ?_
            exact g_retI hX hF dX4_fill_148 (mP.okB hWA hW h4 (by omega) (hM.cg (fun x y x0 x1 y0 y1 => by rw [hA x y x0 x1 y0 y1]; (repeat' split) <;> first | rfl | omega)) (by rw [show i = n by omega, Int.add_zero]))
          · skip
            refine g_iconst (pc' := 56) hX dX4_fill_55 rfl ?_
            refine g_istore_6 (pc' := 58) hX dX4_fill_56 (by decide) rfl rfl ?_
            have loop2 : ∀ (g : Nat) (j : Int) (h2 : Int → Int → Int) (w2 : Wd), 0 ≤ j → j ≤ m → MM E mo n m h2 sn sm sh e w2 → Fr (zB mo) w30 w2 → (∀ x y : Int, 0 ≤ x → x < 7 → 0 ≤ y → y < 7 → h2 x y = if (x < i ∨ (x = i ∧ y < j)) ∧ y < m then fx a (x * m + y + 1).toNat % (b + 1) else h x y) → m < j + g → GG X 0 0 w2 58 [(1, mo), (0, a), (0, b), (0, fx a (i * m + j).toNat), (0, sm' (i * m + j).toNat (fun u => fx a (u + 1).toNat % (b + 1))), (0, i), (0, j)] [] := by
              intro g
              induction g with
              | zero => intro j h2 w2 _ _ _ _ _ hg; exact absurd hg (by omega)
              | succ g ih2 =>
                intro j h2 w2 j0 j1 hM hW hB hg
                have him : 0 ≤ i * m := Int.mul_nonneg h0 (by omega)
                have hx := fx_b (s := a) (by omega) (i * m + j).toNat
                refine g_iload (pc' := 60) hX dX4_fill_58 rfl rfl ?_
                refine g_aload_n (pc' := 61) hX dX4_fill_60 rfl rfl ?_
                refine gf_X4_13 (pc' := 64) hX dX4_fill_61 hM.1.h0 hM.1.hk rfl ?_
                rw [hM.1.vm]
                refine g_icmp_ge (pc' := 67) (tgt := 135) hX dX4_fill_64 (by decide) rfl (by omega) (by omega) (fun h64 => ?_) (fun h64 => ?_)
                · skip
                  refine g_iinc_5 (pc' := 138) hX dX4_fill_135 (by decide) rfl rfl ?_
                  refine g_goto (tgt := 46) hX dX4_fill_138 (by decide) ?_
                  rw [show j = m by omega]
                  have ex := ih (i + 1) h2 w2 (0, m) (by omega) (by omega) hM hW (fun x y x0 x1 y0 y1 => by rw [hB x y x0 x1 y0 y1]; (repeat' split) <;> first | rfl | omega) (Or.inr rfl) (by omega)
                  rw [show (i + 1) * m + 0 = i * m + m by rw [Int.add_mul]; omega] at ex
                  exact ex
                · skip
                  refine g_bipush (pc' := 69) hX dX4_fill_67 rfl rfl ?_
                  refine g_iload_n (pc' := 70) hX dX4_fill_69 rfl rfl ?_
                  refine g_imul (pc' := 71) hX dX4_fill_70 rfl ?_
                  refine g_bipush (pc' := 73) hX dX4_fill_71 rfl rfl ?_
                  refine g_iadd (pc' := 74) hX dX4_fill_73 rfl ?_
                  refine g_sipush (pc' := 77) hX dX4_fill_74 rfl rfl ?_
                  refine g_iremP (pc' := 78) hX dX4_fill_77 (by omega) (by omega) rfl ?_
                  refine g_istore_n_3 (pc' := 79) hX dX4_fill_78 (by decide) rfl rfl ?_
                  refine g_aload_n (pc' := 80) hX dX4_fill_79 rfl rfl ?_
                  refine gf_X4_22 (pc' := 83) hX dX4_fill_80 hM.1.h0 hM.1.hk rfl ?_
                  rw [hM.1.f 5 (by decide) (show moF 5 = 1 by decide)]
                  refine g_bipush (pc' := 85) hX dX4_fill_83 rfl rfl ?_
                  refine g_iload (pc' := 87) hX dX4_fill_85 rfl rfl ?_
                  refine g_imul (pc' := 88) hX dX4_fill_87 rfl ?_
                  refine g_iload (pc' := 90) hX dX4_fill_88 rfl rfl ?_
                  refine g_iadd (pc' := 91) hX dX4_fill_90 rfl ?_
                  refine g_iload_n (pc' := 92) hX dX4_fill_91 rfl rfl ?_
                  refine g_iload_n (pc' := 93) hX dX4_fill_92 rfl rfl ?_
                  refine g_iconst (pc' := 94) hX dX4_fill_93 rfl ?_
                  refine g_iadd (pc' := 95) hX dX4_fill_94 rfl ?_
                  refine g_iremP (pc' := 96) hX dX4_fill_95 (by omega) (by omega) rfl ?_
                  have hF1 : fx a (i * m + j + 1).toNat = (37 * fx a (i * m + j).toNat + 11) % 10007 := by rw [show (i * m + j + 1).toNat = (i * m + j).toNat + 1 by omega]; rfl
                  have hv : 0 ≤ (37 * fx a (i * m + j).toNat + 11) % 10007 % (b + 1) := Int.emod_nonneg _ (by omega)
                  have hv1 : (37 * fx a (i * m + j).toNat + 11) % 10007 % (b + 1) < b + 1 := Int.emod_lt_of_pos _ (by omega)
                  refine g_iastL (pc' := 97) hX dX4_fill_96 (by have := hM.1.hb; omega) (hM.1.k 1 (by decide) (show moK 1 = 50 by decide)) (hM.1.l 1 (by decide) (show moN 1 = 49 by decide)) (by omega) rfl ?_
                  refine hM.stN hW (by omega) (by unfold zB; omega) (fun hM hW => ?_)
                  refine g_aload_n (pc' := 98) hX dX4_fill_97 rfl rfl ?_
                  refine gf_X4_29 (pc' := 101) hX dX4_fill_98 hM.1.h0 hM.1.hk rfl ?_
                  rw [hM.1.f 7 (by decide) (show moF 7 = 3 by decide)]
                  refine g_bipush (pc' := 103) hX dX4_fill_101 rfl rfl ?_
                  refine g_iload (pc' := 105) hX dX4_fill_103 rfl rfl ?_
                  refine g_imul (pc' := 106) hX dX4_fill_105 rfl ?_
                  refine g_iload (pc' := 108) hX dX4_fill_106 rfl rfl ?_
                  refine g_iadd (pc' := 109) hX dX4_fill_108 rfl ?_
                  refine g_iconst (pc' := 110) hX dX4_fill_109 rfl ?_
                  refine g_zastL (pc' := 111) hX dX4_fill_110 (by have := hM.1.hb; omega) (hM.1.k 3 (by decide) (show moK 3 = 51 by decide)) (hM.1.l 3 (by decide) (show moN 3 = 49 by decide)) (by omega) (by omega) rfl ?_
                  refine hM.stF hW (by omega) (by unfold zB; omega) (fun hM hW => ?_)
                  have hM := hM.cg (h' := fun x y => if 7 * x + y = 7 * i + j then (37 * fx a (i * m + j).toNat + 11) % 10007 % (b + 1) else h2 x y) (fun x y _ _ _ _ => (hh0 hv).symm)
                  refine g_iload (pc' := 113) hX dX4_fill_111 rfl rfl ?_
                  refine g_aload_n (pc' := 114) hX dX4_fill_113 rfl rfl ?_
                  refine gf_X4_22 (pc' := 117) hX dX4_fill_114 hM.1.h0 hM.1.hk rfl ?_
                  rw [hM.1.f 5 (by decide) (show moF 5 = 1 by decide)]
                  refine g_bipush (pc' := 119) hX dX4_fill_117 rfl rfl ?_
                  refine g_iload (pc' := 121) hX dX4_fill_119 rfl rfl ?_
                  refine g_imul (pc' := 122) hX dX4_fill_121 rfl ?_
                  refine g_iload (pc' := 124) hX dX4_fill_122 rfl rfl ?_
                  refine g_iadd (pc' := 125) hX dX4_fill_124 rfl ?_
                  refine g_ialdL (pc' := 126) hX dX4_fill_125 (by have := hM.1.h0; omega) (hM.1.k 1 (by decide) (show moK 1 = 50 by decide)) (hM.1.l 1 (by decide) (show moN 1 = 49 by decide)) (by omega) rfl ?_
                  repeat (first | rw [rd_up_ne (by omega)] | rw [rd_up_eq (by omega)])
                  refine g_iadd (pc' := 127) hX dX4_fill_126 rfl ?_
                  refine g_istore_4 (pc' := 129) hX dX4_fill_127 (by decide) rfl rfl ?_
                  refine g_iinc_6 (pc' := 132) hX dX4_fill_129 (by decide) rfl rfl ?_
                  refine g_goto (tgt := 58) hX dX4_fill_132 (by decide) ?_
                  have ex := ih2 (j + 1) _ _ (by omega) (by omega) hM hW (fun x y x0 x1 y0 y1 => by
                    have hj := hB x y x0 x1 y0 y1
                    by_cases he : 7 * x + y = 7 * i + j
                    · have e1 : x = i := by omega
                      have e2 : y = j := by omega
                      subst e1; subst e2
                      rw [if_pos rfl, if_pos (by omega), hF1]
                    · simp only [if_neg he]
                      rw [hj]
                      (repeat' split) <;> first | rfl | omega) (by omega)
                  rw [show (i * m + (j + 1)) = (i * m + j) + 1 by omega, sm_s (by omega), hF1] at ex
                  exact ex
            exact GG_lv (loop2 8 0 h1 w1 (by omega) (by omega) hM hW hA (by omega)) ⟨Or.inr rfl, Or.inr rfl, Or.inr rfl, Or.inr rfl, Or.inr rfl, Or.inr rfl, Or.inr rfl, trivial⟩
      have ex := loop 8 0 h w30 (9, 0) (by omega) (by omega) hM hW (fun x y x0 x1 y0 y1 => by rw [if_neg (by omega)]) (Or.inl rfl) (by omega)
      rw [show (0 * m + 0 : Int).toNat = 0 by rw [Int.zero_mul]; rfl] at ex
      exact ex
    · skip
      refine g_iconst (pc' := 26) hX dX4_fill_25 rfl ?_
      refine g_goto (tgt := 30) hX dX4_fill_26 (by decide) ?_
      refine gV1I0 (pc' := 33) hX dX4_fill_30 ml_X4_118 gc_X4 hM.1.h0 hM.1.hk (c_m_wrong hM (by omega)) (Nat.le_of_ble_eq_true rfl) (by decide) rfl (fun r30 w30 q30 => ?_)
      obtain ⟨hM, hWA, hR, h4, hr30⟩ := q30
      have hI := hM.1
      have hW : Fr (zB mo) w30 w30 := Fr.rf
      have e0 : r30 = 1 := by omega
      subst e0
      clear hr30
      skip
      refine g_if_eq (pc' := 36) (tgt := 38) hX dX4_fill_33 (by decide) rfl (by omega) (fun h33 => absurd h33 (by omega)) (fun h33 => ?_)
      refine g_iconst (pc' := 37) hX dX4_fill_36 rfl ?_
      exact g_retI hX hF dX4_fill_37 (mP.bad hWA h4 (by omega) (by omega) hM)

end M6
