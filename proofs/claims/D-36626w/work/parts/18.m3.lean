/-! MODEL: the next permutation, taking costs, seeing one assignment (by gen/spec_m3.py) -/
set_option maxRecDepth 100000
set_option maxHeartbeats 4000000
section M3
variable {E : Ev} {mo n m : Int} {w : Wd}
theorem c_m_goOn {σ : List Nat} (hI : MI E mo n m w) (hP : PA w (mo + 7) σ) (h1 : 1 ≤ σ.length) (h7 : σ.length ≤ 7) (hl : ∀ k, k < σ.length → σ.getD k 0 < 7) : Call E mX4_goOn 1 0 0 [vR mo, vI (σ.length : Int)] w (qU (fun w' => MI E mo n m w' ∧ Fr (zP mo) w w' ∧ PA w' (mo + 7) (nxL σ.length σ))) := by
  refine call_of (av := [(1, mo), (0, (σ.length : Int))]) (by decide +kernel) rfl (Nat.le_of_ble_eq_true rfl) ?_
  intro X hX hF hname
  show GG X 0 0 w 0 [(1, mo), (0, (σ.length : Int)), (9, 0), (9, 0), (9, 0), (9, 0)] []
  have hW : Fr (zP mo) w w := Fr.rf
  skip
  refine g_iload_n (pc' := 1) hX dX4_goOn_0 rfl rfl ?_
  refine g_iconst (pc' := 2) hX dX4_goOn_1 rfl ?_
  refine g_isub (pc' := 3) hX dX4_goOn_2 rfl ?_
  refine g_istore_n_2 (pc' := 4) hX dX4_goOn_3 (by decide) rfl rfl ?_
  have c31 : ∀ at_ : Int, at_ + 1 = atL σ (σ.length - 1) → at_ + 1 ≤ (σ.length : Int) - 1 → (0 ≤ at_ → σ.getD at_.toNat 0 ≤ σ.getD (at_.toNat + 1) 0) → GG X 0 0 w 31 [(1, mo), (0, (σ.length : Int)), (0, at_), (9, 0), (9, 0), (9, 0)] [] := by
    intro at_ hat hle hgt
    refine g_iload_n (pc' := 32) hX dX4_goOn_31 rfl rfl ?_
    refine g_if_ge (pc' := 35) (tgt := 36) hX dX4_goOn_32 (by decide) rfl (by omega) (fun h32 => ?_) (fun h32 => ?_)
    · skip
      have b1 := hl at_.toNat (by omega)
      refine g_iload_n (pc' := 37) hX dX4_goOn_36 rfl rfl ?_
      refine g_iconst (pc' := 38) hX dX4_goOn_37 rfl ?_
      refine g_isub (pc' := 39) hX dX4_goOn_38 rfl ?_
      refine g_istore_n_3 (pc' := 40) hX dX4_goOn_39 (by decide) rfl rfl ?_
      have c61 : ∀ wi : Int, wi = wiL σ (σ.getD at_.toNat 0) (σ.length - 1) → at_ < wi → wi ≤ (σ.length : Int) - 1 → GG X 0 0 w 61 [(1, mo), (0, (σ.length : Int)), (0, at_), (0, wi), (9, 0), (9, 0)] [] := by
        intro wi hwi hw1 hw2
        refine g_aload_n (pc' := 62) hX dX4_goOn_61 rfl rfl ?_
        refine g_iload_n (pc' := 63) hX dX4_goOn_62 rfl rfl ?_
        refine g_iload_n (pc' := 64) hX dX4_goOn_63 rfl rfl ?_
        refine gV2U0 (pc' := 67) hX dX4_goOn_64 ml_X4_71 gc_X4 hI.h0 hI.hk (c_m_exchange hI hP h7 (by omega) (by omega)) (Nat.le_of_ble_eq_true rfl) (by decide) rfl (fun w64 q64 => ?_)
        obtain ⟨hI, hWn, hP⟩ := q64
        have hW := hW.tr hWn
        refine g_iload_n (pc' := 68) hX dX4_goOn_67 rfl rfl ?_
        refine g_iconst (pc' := 69) hX dX4_goOn_68 rfl ?_
        refine g_iadd (pc' := 70) hX dX4_goOn_69 rfl ?_
        refine g_istore_4 (pc' := 72) hX dX4_goOn_70 (by decide) rfl rfl ?_
        refine g_iload_n (pc' := 73) hX dX4_goOn_72 rfl rfl ?_
        refine g_iconst (pc' := 74) hX dX4_goOn_73 rfl ?_
        refine g_isub (pc' := 75) hX dX4_goOn_74 rfl ?_
        refine g_istore_5 (pc' := 77) hX dX4_goOn_75 (by decide) rfl rfl ?_
        have loop : ∀ (f : Nat) (low high : Int) (τ : List Nat) (w1 : Wd) (g : Nat), 0 ≤ low → low ≤ σ.length → -1 ≤ high → high ≤ (σ.length : Int) - 1 → MI E mo n m w1 → Fr (zP mo) w w1 → PA w1 (mo + 7) τ → τ.length = σ.length → rvL g τ low.toNat high.toNat = nxL σ.length σ → high - low < 2 * g → g < f → GG X 0 0 w1 77 [(1, mo), (0, (σ.length : Int)), (0, at_), (0, wi), (0, low), (0, high)] [] := by
          intro f
          induction f with
          | zero => intro low high τ w1 g l0 l1 l2 l3 hI hW hP hτ hr hg hf; exact absurd hf (by omega)
          | succ f ih =>
            intro low high τ w1 g l0 l1 l2 l3 hI hW hP hτ hr hg hf
            refine g_iload (pc' := 79) hX dX4_goOn_77 rfl rfl ?_
            refine g_iload (pc' := 81) hX dX4_goOn_79 rfl rfl ?_
            refine g_icmp_ge (pc' := 84) (tgt := 101) hX dX4_goOn_81 (by decide) rfl (by omega) (by omega) (fun h81 => ?_) (fun h81 => ?_)
            · skip
              exact g_retU hX hF dX4_goOn_101 ⟨hI, hW, by rw [← hr, rvL_stop (by omega)]; exact hP⟩
            · skip
              refine g_aload_n (pc' := 85) hX dX4_goOn_84 rfl rfl ?_
              refine g_iload (pc' := 87) hX dX4_goOn_85 rfl rfl ?_
              refine g_iload (pc' := 89) hX dX4_goOn_87 rfl rfl ?_
              refine gV2U0 (pc' := 92) hX dX4_goOn_89 ml_X4_71 gc_X4 hI.h0 hI.hk (c_m_exchange hI hP (by omega) (by omega) (by omega)) (Nat.le_of_ble_eq_true rfl) (by decide) rfl (fun w89 q89 => ?_)
              obtain ⟨hI, hWn, hP⟩ := q89
              have hW := hW.tr hWn
              refine g_iinc_4 (pc' := 95) hX dX4_goOn_92 (by decide) rfl rfl ?_
              refine g_iinc_5 (pc' := 98) hX dX4_goOn_95 (by decide) rfl rfl ?_
              refine g_goto (tgt := 77) hX dX4_goOn_98 (by decide) ?_
              exact ih _ _ _ _ (g - 1) (by omega) (by omega) (by omega) (by omega) hI hW hP (by rw [sw_len]; exact hτ) (by rw [← hr]; obtain ⟨g, rfl⟩ : ∃ g2, g = g2 + 1 := ⟨g - 1, by omega⟩; show _ = (if low.toNat < high.toNat then rvL g (sw τ low.toNat high.toNat) (low.toNat + 1) (high.toNat - 1) else τ); rw [if_pos (by omega)]; congr 1 <;> omega) (by omega) (by omega)
        exact loop 5 _ _ _ _ 4 (by omega) (by omega) (by omega) (by omega) hI hW hP sw_len (by unfold nxL; rw [if_neg (by omega)]; rw [show atL σ (σ.length - 1) - 1 = at_.toNat by omega, show wiL σ (σ.getD at_.toNat 0) (σ.length - 1) = wi.toNat by omega]; congr 1 <;> omega) (by omega) (by omega)
      have loop : ∀ (f : Nat) (wi : Int), at_ < wi → wi ≤ (σ.length : Int) - 1 → wiL σ (σ.getD at_.toNat 0) (σ.length - 1) = wiL σ (σ.getD at_.toNat 0) wi.toNat → wi < f → GG X 0 0 w 40 [(1, mo), (0, (σ.length : Int)), (0, at_), (0, wi), (9, 0), (9, 0)] [] := by
        intro f
        induction f with
        | zero => intro wi h3 h4 he hf; exact absurd hf (by omega)
        | succ f ih =>
          intro wi h3 h4 he hf
          refine g_aload_n (pc' := 41) hX dX4_goOn_40 rfl rfl ?_
          refine gf_X4_42 (pc' := 44) hX dX4_goOn_41 hI.h0 hI.hk rfl ?_
          rw [hI.f 11 (by decide) (show moF 11 = 7 by decide)]
          refine g_iload_n (pc' := 45) hX dX4_goOn_44 rfl rfl ?_
          refine g_ialdL (pc' := 46) hX dX4_goOn_45 (by have := hI.h0; omega) (hI.k 7 (by decide) (show moK 7 = 50 by decide)) (hI.l 7 (by decide) (show moN 7 = 7 by decide)) (by omega) rfl ?_
          rw [hP wi (by omega) (by omega)]
          refine g_aload_n (pc' := 47) hX dX4_goOn_46 rfl rfl ?_
          refine gf_X4_42 (pc' := 50) hX dX4_goOn_47 hI.h0 hI.hk rfl ?_
          rw [hI.f 11 (by decide) (show moF 11 = 7 by decide)]
          refine g_iload_n (pc' := 51) hX dX4_goOn_50 rfl rfl ?_
          refine g_ialdL (pc' := 52) hX dX4_goOn_51 (by have := hI.h0; omega) (hI.k 7 (by decide) (show moK 7 = 50 by decide)) (hI.l 7 (by decide) (show moN 7 = 7 by decide)) (by omega) rfl ?_
          rw [hP at_ (by omega) (by omega)]
          have b2 := hl wi.toNat (by omega)
          refine g_icmp_ge (pc' := 55) (tgt := 61) hX dX4_goOn_52 (by decide) rfl (by omega) (by omega) (fun h52 => ?_) (fun h52 => ?_)
          · skip
            exact c61 _ (by rw [he, show wi.toNat = (wi.toNat - 1) + 1 by omega]; simp only [wiL]; rw [if_neg (by rw [show (wi.toNat - 1) + 1 = wi.toNat by omega]; omega)]; omega) (by omega) (by omega)
          · skip
            refine g_iinc_3 (pc' := 58) hX dX4_goOn_55 (by decide) rfl rfl ?_
            refine g_goto (tgt := 40) hX dX4_goOn_58 (by decide) ?_
            exact ih _ (by have : wi ≠ at_ + 1 := (fun z => by rw [z, show (at_ + 1).toNat = at_.toNat + 1 by omega] at h52; have := hgt (by omega); omega); omega) (by omega) (by rw [he, show wi.toNat = (wi + -1).toNat + 1 by omega]; simp only [wiL]; rw [if_pos (by rw [show (wi + -1).toNat + 1 = wi.toNat by omega]; omega)]) (by omega)
      exact loop (σ.length + 1) _ (by omega) (by omega) (by congr 1; omega) (by omega)
    · skip
      exact g_retU hX hF dX4_goOn_35 ⟨hI, hW, by unfold nxL; rw [if_pos (by omega)]; exact hP⟩
  have loop : ∀ (f : Nat) (at_ : Int), -1 ≤ at_ → at_ ≤ (σ.length : Int) - 2 → atL σ (σ.length - 1) = atL σ (at_ + 1).toNat → at_ + 1 < f → GG X 0 0 w 4 [(1, mo), (0, (σ.length : Int)), (0, at_), (9, 0), (9, 0), (9, 0)] [] := by
    intro f
    induction f with
    | zero => intro at_ h0 h2 he hf; exact absurd hf (by omega)
    | succ f ih =>
      intro at_ h0 h2 he hf
      refine g_iload_n (pc' := 5) hX dX4_goOn_4 rfl rfl ?_
      refine g_if_lt (pc' := 8) (tgt := 31) hX dX4_goOn_5 (by decide) rfl (by omega) (fun h5 => ?_) (fun h5 => ?_)
      · skip
        exact c31 _ (by rw [he, show (at_ + 1).toNat = 0 by omega]; simp [atL]; omega) (by omega) (fun z => absurd z (by omega))
      · skip
        refine g_aload_n (pc' := 9) hX dX4_goOn_8 rfl rfl ?_
        refine gf_X4_42 (pc' := 12) hX dX4_goOn_9 hI.h0 hI.hk rfl ?_
        rw [hI.f 11 (by decide) (show moF 11 = 7 by decide)]
        refine g_iload_n (pc' := 13) hX dX4_goOn_12 rfl rfl ?_
        refine g_ialdL (pc' := 14) hX dX4_goOn_13 (by have := hI.h0; omega) (hI.k 7 (by decide) (show moK 7 = 50 by decide)) (hI.l 7 (by decide) (show moN 7 = 7 by decide)) (by omega) rfl ?_
        rw [hP at_ (by omega) (by omega)]
        refine g_aload_n (pc' := 15) hX dX4_goOn_14 rfl rfl ?_
        refine gf_X4_42 (pc' := 18) hX dX4_goOn_15 hI.h0 hI.hk rfl ?_
        rw [hI.f 11 (by decide) (show moF 11 = 7 by decide)]
        refine g_iload_n (pc' := 19) hX dX4_goOn_18 rfl rfl ?_
        refine g_iconst (pc' := 20) hX dX4_goOn_19 rfl ?_
        refine g_iadd (pc' := 21) hX dX4_goOn_20 rfl ?_
        refine g_ialdL (pc' := 22) hX dX4_goOn_21 (by have := hI.h0; omega) (hI.k 7 (by decide) (show moK 7 = 50 by decide)) (hI.l 7 (by decide) (show moN 7 = 7 by decide)) (by omega) rfl ?_
        rw [hP (at_ + 1) (by omega) (by omega)]
        have e1 : (at_ + 1).toNat = at_.toNat + 1 := by omega
        rw [e1]
        have b1 := hl at_.toNat (by omega)
        have b2 := hl (at_.toNat + 1) (by omega)
        refine g_icmp_le (pc' := 25) (tgt := 31) hX dX4_goOn_22 (by decide) rfl (by omega) (by omega) (fun h22 => ?_) (fun h22 => ?_)
        · skip
          exact c31 _ (by rw [he, e1]; simp only [atL]; rw [if_neg (by omega)]; omega) (by omega) (fun _ => by omega)
        · skip
          refine g_iinc_2 (pc' := 28) hX dX4_goOn_25 (by decide) rfl rfl ?_
          refine g_goto (tgt := 4) hX dX4_goOn_28 (by decide) ?_
          exact ih _ (by omega) (by omega) (by rw [he, show (at_ + 1).toNat = at_.toNat + 1 by omega]; simp only [atL]; rw [if_pos (by omega)]; congr 1; omega) (by omega)
  exact loop (σ.length + 1) _ (by omega) (by omega) (by congr 1; omega) (by omega)

theorem mcost_fr {P : Int → Int → Prop} {w1 : Wd} {i j : Int} (h : Fr P w w1) (h1 : ¬ P mo 1) (h2 : ∀ k, ¬ P (mo + 3) k) (h3 : ∀ k, ¬ P (mo + 1) k) : mcost w1 mo i j = mcost w mo i j := by
  unfold mcost
  rw [h.rd _ _ h1, h.rd _ _ (h2 _), h.rd _ _ (h3 _)]
theorem c_m_take (hI : MI E mo n m w) (hT : ∀ k : Int, 0 ≤ k → k < 49 → rdw w (mo + 3) k = 0 ∨ rdw w (mo + 3) k = 1) : Call E mX4_take 1 0 0 [vR mo] w (qU (fun w' => MI E mo n m w' ∧ Fr (zT mo) w w' ∧ ∀ i j : Int, 0 ≤ i → i < n → 0 ≤ j → j < n → cw w' mo i j = mcost w mo i j)) := by
  refine call_of (av := [(1, mo)]) (by decide +kernel) rfl (Nat.le_of_ble_eq_true rfl) ?_
  intro X hX hF hname
  show GG X 0 0 w 0 [(1, mo), (9, 0), (9, 0)] []
  have hW : Fr (zT mo) w w := Fr.rf
  have hb := hI.b
  refine g_iconst (pc' := 1) hX dX4_take_0 rfl ?_
  refine g_istore_n_1 (pc' := 2) hX dX4_take_1 (by decide) rfl rfl ?_
  have loop : ∀ (f : Nat) (i : Int) (w1 : Wd), 0 ≤ i → i ≤ n → MI E mo n m w1 → Fr (zT mo) w w1 → (∀ a b : Int, 0 ≤ a → a < i → 0 ≤ b → b < n → cw w1 mo a b = mcost w mo a b) → n < i + f → GG X 0 0 w1 2 [(1, mo), (0, i), (9, 0)] [] := by
    intro f
    induction f with
    | zero => intro i w1 h0 h1 hI hW hA hf; exact absurd hf (by omega)
    | succ f ih =>
      intro i w1 h0 h1 hI hW hA hf
      refine g_iload_n (pc' := 3) hX dX4_take_2 rfl rfl ?_
      refine g_aload_n (pc' := 4) hX dX4_take_3 rfl rfl ?_
      refine gf_X4_7 (pc' := 7) hX dX4_take_4 hI.h0 hI.hk rfl ?_
      rw [hI.vn]
      refine g_icmp_ge (pc' := 10) (tgt := 49) hX dX4_take_7 (by decide) rfl (by omega) (by omega) (fun h7 => ?_) (fun h7 => ?_)
      · skip
        exact g_retU hX hF dX4_take_49 ⟨hI, hW, fun a b a0 a1 b0 b1 => hA a b a0 (by omega) b0 b1⟩
      · skip
        refine g_iconst (pc' := 11) hX dX4_take_10 rfl ?_
        refine g_istore_n_2 (pc' := 12) hX dX4_take_11 (by decide) rfl rfl ?_
        have loop2 : ∀ (f : Nat) (j : Int) (w2 : Wd), 0 ≤ j → j ≤ n → MI E mo n m w2 → Fr (zT mo) w w2 → (∀ a b : Int, 0 ≤ a → a < i → 0 ≤ b → b < n → cw w2 mo a b = mcost w mo a b) → (∀ b : Int, 0 ≤ b → b < j → cw w2 mo i b = mcost w mo i b) → n < j + f → GG X 0 0 w2 12 [(1, mo), (0, i), (0, j)] [] := by
          intro g
          induction g with
          | zero => intro j w2 _ _ _ _ _ _ hf; exact absurd hf (by omega)
          | succ g ih2 =>
            intro j w2 j0 j1 hI hW hA hB hg
            refine g_iload_n (pc' := 13) hX dX4_take_12 rfl rfl ?_
            refine g_aload_n (pc' := 14) hX dX4_take_13 rfl rfl ?_
            refine gf_X4_7 (pc' := 17) hX dX4_take_14 hI.h0 hI.hk rfl ?_
            rw [hI.vn]
            refine g_icmp_ge (pc' := 20) (tgt := 43) hX dX4_take_17 (by decide) rfl (by omega) (by omega) (fun h17 => ?_) (fun h17 => ?_)
            · skip
              refine g_iinc_1 (pc' := 46) hX dX4_take_43 (by decide) rfl rfl ?_
              refine g_goto (tgt := 2) hX dX4_take_46 (by decide) ?_
              exact GG_lv (ih (i + 1) _ (by omega) (by omega) hI hW (fun a b a0 a1 b0 b1 => by by_cases e : a = i; (rw [e]; exact hB b b0 (by omega)); (exact hA a b a0 (by omega) b0 b1)) (by omega)) ⟨Or.inr rfl, Or.inr rfl, Or.inl rfl, trivial⟩
            · skip
              refine g_aload_n (pc' := 21) hX dX4_take_20 rfl rfl ?_
              refine gf_X4_36 (pc' := 24) hX dX4_take_21 hI.h0 hI.hk rfl ?_
              rw [hI.f 9 (by decide) (show moF 9 = 5 by decide)]
              refine g_bipush (pc' := 26) hX dX4_take_24 rfl rfl ?_
              refine g_iload_n (pc' := 27) hX dX4_take_26 rfl rfl ?_
              refine g_imul (pc' := 28) hX dX4_take_27 rfl ?_
              refine g_iload_n (pc' := 29) hX dX4_take_28 rfl rfl ?_
              refine g_iadd (pc' := 30) hX dX4_take_29 rfl ?_
              refine g_aload_n (pc' := 31) hX dX4_take_30 rfl rfl ?_
              refine g_iload_n (pc' := 32) hX dX4_take_31 rfl rfl ?_
              refine g_iload_n (pc' := 33) hX dX4_take_32 rfl rfl ?_
              refine gV2E0 (pc' := 36) hX dX4_take_33 ml_X4_75 gc_X4 hI.h0 hI.hk (c_m_cost hI (by omega) (by omega) (fun k k0 k1 => by rw [hW.rd _ _ (by unfold zT; omega)]; exact hT k k0 k1)) (Nat.le_of_ble_eq_true rfl) (by decide) rfl ?_
              have hWo := hW
              refine g_iastL hX dX4_take_36 (by have := hI.hb; omega) (hI.k 5 (by decide) (show moK 5 = 50 by decide)) (hI.l 5 (by decide) (show moN 5 = 49 by decide)) (by omega) rfl ?_
              refine hI.step hW (by omega) (by unfold zT; omega) (fun hI hW => ?_)
              refine g_iinc_2 (pc' := 40) hX dX4_take_37 (by decide) rfl rfl ?_
              refine g_goto (tgt := 12) hX dX4_take_40 (by decide) ?_
              refine ih2 (j + 1) _ (by omega) (by omega) hI hW (fun a b a0 a1 b0 b1 => ?_) (fun b b0 b1 => ?_) (by omega)
              · unfold cw; rw [rd_up_ne (by omega)]; exact hA a b a0 a1 b0 b1
              · unfold cw
                by_cases e : b = j
                · rw [rd_up_eq (by omega), e]; exact mcost_fr hWo (by unfold zT; omega) (by unfold zT; omega) (by unfold zT; omega)
                · rw [rd_up_ne (by omega)]; exact hB b b0 (by omega)
        exact loop2 8 0 w1 (by omega) (by omega) hI hW hA (fun b b0 b1 => absurd b0 (by omega)) (by omega)
  exact loop 8 0 w (by omega) (by omega) hI hW (fun a b a0 a1 => absurd a0 (by omega)) (by omega)

end M3
