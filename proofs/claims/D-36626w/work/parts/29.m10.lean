/-! MODEL: potentials, counting, the enumeration (by gen/spec_m10.py) -/
set_option maxRecDepth 100000
set_option maxHeartbeats 4000000
section M10
variable {E : Ev} {mo n m sn sm : Int} {h sh : Int → Int → Int} {e : En} {w : Wd}
theorem c_m_findPot (hM : MM E mo n m h sn sm sh e w) : Call E mX4_findPotentials 11 0 0 [vR mo] w (qU (fun w' => MM E mo n m h sn sm sh e w' ∧ Fr (zB mo) w w' ∧ (∀ i j : Int, 0 ≤ i → i < n → 0 ≤ j → j < n → cw w' mo i j = tC m h i j) ∧ LSx mo (LK n m h) (LW n m h) w' ∧ (∀ i : Int, 0 ≤ i → i < n → rdw w' (mo + 10) i = PU n m h i) ∧ (∀ j : Int, 0 ≤ j → j < n → rdw w' (mo + 11) j = PV n m h j))) := by
  refine call_of (av := [(1, mo)]) (by decide +kernel) rfl (Nat.le_of_ble_eq_true rfl) ?_
  intro X hX hF hname
  show GG X 0 0 w 0 [(1, mo), (9, 0), (9, 0), (9, 0)] []
  have hb := hM.1.b
  have hsb := hM.2.1.2
  have hW : Fr (zB mo) w w := Fr.rf
  refine g_aload_n (pc' := 1) hX dX4_findPotentials_0 rfl rfl ?_
  refine gV0U0 (pc' := 4) hX dX4_findPotentials_1 ml_X4_114 gc_X4 hM.1.h0 hM.1.hk (c_m_lookM hM) (Nat.le_of_ble_eq_true rfl) (by decide) rfl (fun w1 q1 => ?_)
  obtain ⟨hM, hW1, hC, hS⟩ := q1
  have hW := hW.tr (hW1.wk (fun a i z => show zB mo a i by unfold zL at z; unfold zB; omega))
  have hU : Fr (zU mo) w1 w1 := Fr.rf
  have hub := hM.ub
  have hcb := hM.cB
  refine g_iconst (pc' := 5) hX dX4_findPotentials_4 rfl ?_
  refine g_istore_n_1 (pc' := 6) hX dX4_findPotentials_5 (by decide) rfl rfl ?_
  have loop : ∀ (f : Nat) (i : Int) (u : Wd), 0 ≤ i → i ≤ n → MM E mo n m h sn sm sh e u → Fr (zU mo) w1 u → (∀ k : Int, 0 ≤ k → k < i → rdw u (mo + 10) k = PU n m h k) → n < i + f → GG X 0 0 u 6 [(1, mo), (0, i), (9, 0), (9, 0)] [] := by
    intro f
    induction f with
    | zero => intro i u h0 h1 hM hU hA hf; exact absurd hf (by omega)
    | succ f ih =>
      intro i u h0 h1 hM hU hA hf
      refine g_iload_n (pc' := 7) hX dX4_findPotentials_6 rfl rfl ?_
      refine g_aload_n (pc' := 8) hX dX4_findPotentials_7 rfl rfl ?_
      refine gf_X4_7 (pc' := 11) hX dX4_findPotentials_8 hM.1.h0 hM.1.hk rfl ?_
      rw [hM.1.vn]
      refine g_icmp_ge (pc' := 14) (tgt := 50) hX dX4_findPotentials_11 (by decide) rfl (by omega) (by omega) (fun h11 => ?_) (fun h11 => ?_)
      · skip
        refine g_iconst (pc' := 51) hX dX4_findPotentials_50 rfl ?_
        refine g_istore_n_1 (pc' := 52) hX dX4_findPotentials_51 (by decide) rfl rfl ?_
        have loop2 : ∀ (g : Nat) (j : Int) (u2 : Wd) (x2 x3 : Nat × Int), 0 ≤ j → j ≤ n → MM E mo n m h sn sm sh e u2 → Fr (zU mo) w1 u2 → (∀ k : Int, 0 ≤ k → k < n → rdw u2 (mo + 10) k = PU n m h k) → (∀ k : Int, 0 ≤ k → k < j → rdw u2 (mo + 11) k = PV n m h k) → (x2 = (9, 0) ∨ x2.1 = 0) → (x3 = (9, 0) ∨ x3.1 = 0) → n < j + g → GG X 0 0 u2 52 [(1, mo), (0, j), x2, x3] [] := by
          intro g
          induction g with
          | zero => intro j u2 x2 x3 _ _ _ _ _ _ _ _ hg; exact absurd hg (by omega)
          | succ g ih2 =>
            intro j u2 x2 x3 j0 j1 hM hU hP hB h2 h3 hg
            refine g_iload_n (pc' := 53) hX dX4_findPotentials_52 rfl rfl ?_
            refine g_aload_n (pc' := 54) hX dX4_findPotentials_53 rfl rfl ?_
            refine gf_X4_7 (pc' := 57) hX dX4_findPotentials_54 hM.1.h0 hM.1.hk rfl ?_
            rw [hM.1.vn]
            refine g_icmp_ge (pc' := 60) (tgt := 135) hX dX4_findPotentials_57 (by decide) rfl (by omega) (by omega) (fun h57 => ?_) (fun h57 => ?_)
            · skip
              exact g_retU hX hF dX4_findPotentials_135 ⟨hM, hW.tr (hU.wk (fun a i z => by unfold zU at z; unfold zB; omega)), fun i j i0 i1 j0 j1 => by rw [cw_fr hU (by unfold zU; omega)]; exact hC i j i0 i1 j0 j1, hS.fr hU (fun a i z => by unfold zU at z; omega), hP, fun k k0 k1 => hB k k0 (by omega)⟩
            · skip
              refine g_aload_n (pc' := 61) hX dX4_findPotentials_60 rfl rfl ?_
              refine gf_X4_57 (pc' := 64) hX dX4_findPotentials_61 hM.1.h0 hM.1.hk rfl ?_
              rw [hM.1.f 23 (by decide) (show moF 23 = 11 by decide)]
              refine g_iload_n (pc' := 65) hX dX4_findPotentials_64 rfl rfl ?_
              refine g_ldc (pc' := 67) (n := 1000000) hX dX4_findPotentials_65 q1735 rfl rfl ?_
              refine g_iastL (pc' := 68) hX dX4_findPotentials_67 (by have := hM.1.hb; omega) (hM.1.k 11 (by decide) (show moK 11 = 50 by decide)) (hM.1.l 11 (by decide) (show moN 11 = 7 by decide)) (by omega) rfl ?_
              refine hM.stZ hU (by unfold zZ; omega) (by unfold zU; omega) (fun hM hU => ?_)
              have hP2 : (∀ k : Int, 0 ≤ k → k < n → rdw (upw u2 (mo + 11) j 1000000) (mo + 10) k = PU n m h k) := fun k k0 k1 => by rw [rd_up_ne (by omega)]; exact hP k k0 k1
              have hB2 : ∀ k : Int, 0 ≤ k → k < j → rdw (upw u2 (mo + 11) j 1000000) (mo + 11) k = PV n m h k := fun k k0 k1 => by rw [rd_up_ne (by omega)]; exact hB k k0 k1
              refine g_iconst (pc' := 69) hX dX4_findPotentials_68 rfl ?_
              refine g_istore_n_2 (pc' := 70) hX dX4_findPotentials_69 (by decide) rfl rfl ?_
              have loop3 : ∀ (q : Nat) (i : Int) (u3 : Wd) (y3 : Nat × Int), 0 ≤ i → i ≤ n → MM E mo n m h sn sm sh e u3 → Fr (zU mo) w1 u3 → (∀ k : Int, 0 ≤ k → k < n → rdw u3 (mo + 10) k = PU n m h k) → (∀ k : Int, 0 ≤ k → k < j → rdw u3 (mo + 11) k = PV n m h k) → rdw u3 (mo + 11) j = mnF (fun i => tC m h i j - PU n m h i) i.toNat → (y3 = (9, 0) ∨ y3.1 = 0) → n < i + q → GG X 0 0 u3 70 [(1, mo), (0, j), (0, i), y3] [] := by
                intro q
                induction q with
                | zero => intro i u3 y3 _ _ _ _ _ _ _ _ hq; exact absurd hq (by omega)
                | succ q ih3 =>
                  intro i u3 y3 i0 i1 hM hU hP3 hB3 hD hy hq
                  refine g_iload_n (pc' := 71) hX dX4_findPotentials_70 rfl rfl ?_
                  refine g_aload_n (pc' := 72) hX dX4_findPotentials_71 rfl rfl ?_
                  refine gf_X4_7 (pc' := 75) hX dX4_findPotentials_72 hM.1.h0 hM.1.hk rfl ?_
                  rw [hM.1.vn]
                  refine g_icmp_ge (pc' := 78) (tgt := 129) hX dX4_findPotentials_75 (by decide) rfl (by omega) (by omega) (fun h75 => ?_) (fun h75 => ?_)
                  · skip
                    refine g_iinc_1 (pc' := 132) hX dX4_findPotentials_129 (by decide) rfl rfl ?_
                    refine g_goto (tgt := 52) hX dX4_findPotentials_132 (by decide) ?_
                    exact ih2 (j + 1) u3 _ y3 (by omega) (by omega) hM hU hP3 (fun k k0 k1 => by
                      by_cases e : k = j
                      · rw [e, hD, show i = n by omega]; rfl
                      · exact hB3 k k0 (by omega)) (Or.inr rfl) hy (by omega)
                  · skip
                    have hb1 := hub i (by omega)
                    have hb2 := hcb i j (by omega) (by omega) (by omega) (by omega)
                    have hb3 := mnF_b (f := fun i => tC m h i j - PU n m h i) (B := -1001000) (by omega) (k := i.toNat) (fun k k0 k1 => by have := hub k (by omega); have := hcb k j (by omega) (by omega) (by omega) (by omega); omega)
                    refine g_aload_n (pc' := 79) hX dX4_findPotentials_78 rfl rfl ?_
                    refine gf_X4_36 (pc' := 82) hX dX4_findPotentials_79 hM.1.h0 hM.1.hk rfl ?_
                    rw [hM.1.f 9 (by decide) (show moF 9 = 5 by decide)]
                    refine g_bipush (pc' := 84) hX dX4_findPotentials_82 rfl rfl ?_
                    refine g_iload_n (pc' := 85) hX dX4_findPotentials_84 rfl rfl ?_
                    refine g_imul (pc' := 86) hX dX4_findPotentials_85 rfl ?_
                    refine g_iload_n (pc' := 87) hX dX4_findPotentials_86 rfl rfl ?_
                    refine g_iadd (pc' := 88) hX dX4_findPotentials_87 rfl ?_
                    refine g_ialdL (pc' := 89) hX dX4_findPotentials_88 (by have := hM.1.h0; omega) (hM.1.k 5 (by decide) (show moK 5 = 50 by decide)) (hM.1.l 5 (by decide) (show moN 5 = 49 by decide)) (by omega) rfl ?_
                    rw [show rdw u3 (mo + 5) (7 * i + j) = tC m h i j from (hU.rd _ _ (by unfold zU; omega)).trans (hC i j (by omega) (by omega) (by omega) (by omega))]
                    refine g_aload_n (pc' := 90) hX dX4_findPotentials_89 rfl rfl ?_
                    refine gf_X4_54 (pc' := 93) hX dX4_findPotentials_90 hM.1.h0 hM.1.hk rfl ?_
                    rw [hM.1.f 22 (by decide) (show moF 22 = 10 by decide)]
                    refine g_iload_n (pc' := 94) hX dX4_findPotentials_93 rfl rfl ?_
                    refine g_ialdL (pc' := 95) hX dX4_findPotentials_94 (by have := hM.1.h0; omega) (hM.1.k 10 (by decide) (show moK 10 = 50 by decide)) (hM.1.l 10 (by decide) (show moN 10 = 7 by decide)) (by omega) rfl ?_
                    rw [hP3 i (by omega) (by omega)]
                    refine g_isub (pc' := 96) hX dX4_findPotentials_95 rfl ?_
                    refine g_istore_n_3 (pc' := 97) hX dX4_findPotentials_96 (by decide) rfl rfl ?_
                    refine g_aload_n (pc' := 98) hX dX4_findPotentials_97 rfl rfl ?_
                    refine gf_X4_57 (pc' := 101) hX dX4_findPotentials_98 hM.1.h0 hM.1.hk rfl ?_
                    rw [hM.1.f 23 (by decide) (show moF 23 = 11 by decide)]
                    refine g_iload_n (pc' := 102) hX dX4_findPotentials_101 rfl rfl ?_
                    refine g_iload_n (pc' := 103) hX dX4_findPotentials_102 rfl rfl ?_
                    refine g_aload_n (pc' := 104) hX dX4_findPotentials_103 rfl rfl ?_
                    refine gf_X4_57 (pc' := 107) hX dX4_findPotentials_104 hM.1.h0 hM.1.hk rfl ?_
                    rw [hM.1.f 23 (by decide) (show moF 23 = 11 by decide)]
                    refine g_iload_n (pc' := 108) hX dX4_findPotentials_107 rfl rfl ?_
                    refine g_ialdL (pc' := 109) hX dX4_findPotentials_108 (by have := hM.1.h0; omega) (hM.1.k 11 (by decide) (show moK 11 = 50 by decide)) (hM.1.l 11 (by decide) (show moN 11 = 7 by decide)) (by omega) rfl ?_
                    rw [hD]
                    refine g_icmp_ge (pc' := 112) (tgt := 116) hX dX4_findPotentials_109 (by decide) rfl (by omega) (by omega) (fun h109 => ?_) (fun h109 => ?_)
                    · skip
                      refine g_aload_n (pc' := 117) hX dX4_findPotentials_116 rfl rfl ?_
                      refine gf_X4_57 (pc' := 120) hX dX4_findPotentials_117 hM.1.h0 hM.1.hk rfl ?_
                      rw [hM.1.f 23 (by decide) (show moF 23 = 11 by decide)]
                      refine g_iload_n (pc' := 121) hX dX4_findPotentials_120 rfl rfl ?_
                      refine g_ialdL (pc' := 122) hX dX4_findPotentials_121 (by have := hM.1.h0; omega) (hM.1.k 11 (by decide) (show moK 11 = 50 by decide)) (hM.1.l 11 (by decide) (show moN 11 = 7 by decide)) (by omega) rfl ?_
                      rw [hD]
                      refine g_iastL (pc' := 123) hX dX4_findPotentials_122 (by have := hM.1.hb; omega) (hM.1.k 11 (by decide) (show moK 11 = 50 by decide)) (hM.1.l 11 (by decide) (show moN 11 = 7 by decide)) (by omega) rfl ?_
                      refine hM.stZ hU (by unfold zZ; omega) (by unfold zU; omega) (fun hM hU => ?_)
                      refine g_iinc_2 (pc' := 126) hX dX4_findPotentials_123 (by decide) rfl rfl ?_
                      refine g_goto (tgt := 70) hX dX4_findPotentials_126 (by decide) ?_
                      exact ih3 (i + 1) _ _ (by omega) (by omega) hM hU (fun k k0 k1 => by rw [rd_up_ne (by omega)]; exact hP3 k k0 k1) (fun k k0 k1 => by rw [rd_up_ne (by omega)]; exact hB3 k k0 k1) (by
                        rw [rd_up_eq ⟨rfl, rfl⟩, mnF_s i0]
                        first
                          | rw [if_pos (by omega)]
                          | rw [if_neg (by omega)]) (Or.inr rfl) (by omega)
                    · skip
                      refine g_iload_n (pc' := 113) hX dX4_findPotentials_112 rfl rfl ?_
                      refine g_goto (tgt := 122) hX dX4_findPotentials_113 (by decide) ?_
                      refine g_iastL (pc' := 123) hX dX4_findPotentials_122 (by have := hM.1.hb; omega) (hM.1.k 11 (by decide) (show moK 11 = 50 by decide)) (hM.1.l 11 (by decide) (show moN 11 = 7 by decide)) (by omega) rfl ?_
                      refine hM.stZ hU (by unfold zZ; omega) (by unfold zU; omega) (fun hM hU => ?_)
                      refine g_iinc_2 (pc' := 126) hX dX4_findPotentials_123 (by decide) rfl rfl ?_
                      refine g_goto (tgt := 70) hX dX4_findPotentials_126 (by decide) ?_
                      exact ih3 (i + 1) _ _ (by omega) (by omega) hM hU (fun k k0 k1 => by rw [rd_up_ne (by omega)]; exact hP3 k k0 k1) (fun k k0 k1 => by rw [rd_up_ne (by omega)]; exact hB3 k k0 k1) (by
                        rw [rd_up_eq ⟨rfl, rfl⟩, mnF_s i0]
                        first
                          | rw [if_pos (by omega)]
                          | rw [if_neg (by omega)]) (Or.inr rfl) (by omega)
              exact loop3 8 0 _ x3 (by omega) (by omega) hM hU hP2 hB2 (rd_up_eq ⟨rfl, rfl⟩) h3 (by omega)
        exact loop2 8 0 u (9, 0) (9, 0) (by omega) (by omega) hM hU (fun k k0 k1 => hA k k0 (by omega)) (fun k k0 k1 => absurd k0 (by omega)) (Or.inl rfl) (Or.inl rfl) (by omega)
      · skip
        refine g_aload_n (pc' := 15) hX dX4_findPotentials_14 rfl rfl ?_
        refine gf_X4_54 (pc' := 18) hX dX4_findPotentials_15 hM.1.h0 hM.1.hk rfl ?_
        rw [hM.1.f 22 (by decide) (show moF 22 = 10 by decide)]
        refine g_iload_n (pc' := 19) hX dX4_findPotentials_18 rfl rfl ?_
        refine g_aload_n (pc' := 20) hX dX4_findPotentials_19 rfl rfl ?_
        refine gf_X4_80 (pc' := 23) hX dX4_findPotentials_20 hM.1.h0 hM.1.hk rfl ?_
        rw [show rdw u mo 13 = (LK n m h).1 from (hU.rd _ _ (by unfold zU; omega)).trans hS.1.1]
        refine g_aload_n (pc' := 24) hX dX4_findPotentials_23 rfl rfl ?_
        refine gf_X4_39 (pc' := 27) hX dX4_findPotentials_24 hM.1.h0 hM.1.hk rfl ?_
        rw [hM.1.f 10 (by decide) (show moF 10 = 6 by decide)]
        refine g_bipush (pc' := 29) hX dX4_findPotentials_27 rfl rfl ?_
        refine g_iload_n (pc' := 30) hX dX4_findPotentials_29 rfl rfl ?_
        refine g_imul (pc' := 31) hX dX4_findPotentials_30 rfl ?_
        refine g_ialdL (pc' := 32) hX dX4_findPotentials_31 (by have := hM.1.h0; omega) (hM.1.k 6 (by decide) (show moK 6 = 50 by decide)) (hM.1.l 6 (by decide) (show moN 6 = 49 by decide)) (by omega) rfl ?_
        rw [show rdw u (mo + 6) (7 * i) = LW n m h (7 * i) from (hU.rd _ _ (by unfold zU; omega)).trans (hS.2.2 _ (by omega) (by omega))]
        refine g_aload_n (pc' := 33) hX dX4_findPotentials_32 rfl rfl ?_
        refine gf_X4_36 (pc' := 36) hX dX4_findPotentials_33 hM.1.h0 hM.1.hk rfl ?_
        rw [hM.1.f 9 (by decide) (show moF 9 = 5 by decide)]
        refine g_bipush (pc' := 38) hX dX4_findPotentials_36 rfl rfl ?_
        refine g_iload_n (pc' := 39) hX dX4_findPotentials_38 rfl rfl ?_
        refine g_imul (pc' := 40) hX dX4_findPotentials_39 rfl ?_
        refine g_ialdL (pc' := 41) hX dX4_findPotentials_40 (by have := hM.1.h0; omega) (hM.1.k 5 (by decide) (show moK 5 = 50 by decide)) (hM.1.l 5 (by decide) (show moN 5 = 49 by decide)) (by omega) rfl ?_
        rw [show rdw u (mo + 5) (7 * i) = tC m h i 0 from (hU.rd _ _ (by unfold zU; omega)).trans (by have := hC i 0 (by omega) (by omega) (by omega) (by omega); unfold cw at this; rw [Int.add_zero] at this; exact this)]
        refine g_isub (pc' := 42) hX dX4_findPotentials_41 rfl ?_
        refine g_isub (pc' := 43) hX dX4_findPotentials_42 rfl ?_
        refine g_iastL (pc' := 44) hX dX4_findPotentials_43 (by have := hM.1.hb; omega) (hM.1.k 10 (by decide) (show moK 10 = 50 by decide)) (hM.1.l 10 (by decide) (show moN 10 = 7 by decide)) (by omega) rfl ?_
        refine hM.stZ hU (by unfold zZ; omega) (by unfold zU; omega) (fun hM hU => ?_)
        refine g_iinc_1 (pc' := 47) hX dX4_findPotentials_44 (by decide) rfl rfl ?_
        refine g_goto (tgt := 6) hX dX4_findPotentials_47 (by decide) ?_
        exact ih (i + 1) _ (by omega) (by omega) hM hU (fun k k0 k1 => by
          by_cases e : k = i
          · rw [rd_up_eq ⟨rfl, e⟩, e]; rfl
          · rw [rd_up_ne (fun z => e z.2)]; exact hA k k0 (by omega)) (by omega)
  exact loop 8 0 w1 (by omega) (by omega) hM hU (fun k k0 k1 => absurd k0 (by omega)) (by omega)

theorem c_mo_rowPotential {r : Int} (hM : MM E mo n m h sn sm sh e w) (br : -2147483648 ≤ r ∧ r ≤ 2147483647)  : Call E mX4_rowPotential 12 0 0 [vR mo, vI r] w (qI (mP mo w (if 0 ≤ r ∧ r ≤ n - 1 then 0 else 1) (PU n m h r) (fun w' => MM E mo n m h sn sm sh e w') (fun w' => MM E mo n m h sn sm sh e w'))) := by
  refine call_of (av := [(1, mo), (0, r)]) (by decide +kernel) rfl (Nat.le_of_ble_eq_true rfl) ?_
  intro X hX hF hname
  show GG X 0 0 w 0 [(1, mo), (0, r)] []
  have hb := hM.1.b
  have hsb := hM.2.1.2
  skip
  refine g_aload_n (pc' := 1) hX dX4_rowPotential_0 rfl rfl ?_
  refine g_aload_n (pc' := 2) hX dX4_rowPotential_1 rfl rfl ?_
  refine g_iload_n (pc' := 3) hX dX4_rowPotential_2 rfl rfl ?_
  refine gV1E0 (pc' := 6) hX dX4_rowPotential_3 ml_X4_122 gc_X4 hM.1.h0 hM.1.hk (c_m_isRow hM.1 (by omega)) (Nat.le_of_ble_eq_true rfl) (by decide) rfl ?_
  refine g_if_eq (pc' := 9) (tgt := 13) hX dX4_rowPotential_6 (by decide) rfl (by omega) (fun h6 => ?_) (fun h6 => ?_)
  · skip
    refine g_iconst (pc' := 14) hX dX4_rowPotential_13 rfl ?_
    refine gV1I0 (pc' := 17) hX dX4_rowPotential_14 ml_X4_118 gc_X4 hM.1.h0 hM.1.hk (c_m_wrong hM (by omega)) (Nat.le_of_ble_eq_true rfl) (by decide) rfl (fun r14 w14 q14 => ?_)
    obtain ⟨hM, hWA, hR, h4, hr14⟩ := q14
    have hI := hM.1
    have hW : Fr (zB mo) w14 w14 := Fr.rf
    have e0 : r14 = 1 := by omega
    subst e0
    clear hr14
    skip
    refine g_if_eq (pc' := 20) (tgt := 22) hX dX4_rowPotential_17 (by decide) rfl (by omega) (fun h17 => absurd h17 (by omega)) (fun h17 => ?_)
    refine g_iconst (pc' := 21) hX dX4_rowPotential_20 rfl ?_
    exact g_retI hX hF dX4_rowPotential_21 (mP.bad hWA h4 (by omega) (by omega) hM)
  · skip
    refine g_iconst (pc' := 10) hX dX4_rowPotential_9 rfl ?_
    refine g_goto (tgt := 14) hX dX4_rowPotential_10 (by decide) ?_
    refine gV1I0 (pc' := 17) hX dX4_rowPotential_14 ml_X4_118 gc_X4 hM.1.h0 hM.1.hk (c_m_wrong hM (by omega)) (Nat.le_of_ble_eq_true rfl) (by decide) rfl (fun r14 w14 q14 => ?_)
    obtain ⟨hM, hWA, hR, h4, hr14⟩ := q14
    have hI := hM.1
    have hW : Fr (zB mo) w14 w14 := Fr.rf
    have e0 : r14 = 0 := by omega
    subst e0
    clear hr14
    skip
    refine g_if_eq (pc' := 20) (tgt := 22) hX dX4_rowPotential_17 (by decide) rfl (by omega) (fun h17 => ?_) (fun h17 => absurd h17 (by omega))
    refine g_aload_n (pc' := 23) hX dX4_rowPotential_22 rfl rfl ?_
    refine gV0U0 (pc' := 26) hX dX4_rowPotential_23 ml_X4_159 gc_X4 hM.1.h0 hM.1.hk (c_m_findPot hM) (Nat.le_of_ble_eq_true rfl) (by decide) rfl (fun w23 q23 => ?_)
    obtain ⟨hM, hW1, hC, hS, hPU, hPV⟩ := q23
    have hW := hW.tr hW1
    refine g_aload_n (pc' := 27) hX dX4_rowPotential_26 rfl rfl ?_
    refine gf_X4_54 (pc' := 30) hX dX4_rowPotential_27 hM.1.h0 hM.1.hk rfl ?_
    rw [hM.1.f 22 (by decide) (show moF 22 = 10 by decide)]
    refine g_iload_n (pc' := 31) hX dX4_rowPotential_30 rfl rfl ?_
    refine g_ialdL (pc' := 32) hX dX4_rowPotential_31 (by have := hM.1.h0; omega) (hM.1.k 10 (by decide) (show moK 10 = 50 by decide)) (hM.1.l 10 (by decide) (show moN 10 = 7 by decide)) (by omega) rfl ?_
    rw [hPU r (by omega) (by omega)]
    exact g_retI hX hF dX4_rowPotential_32 (mP.okB hWA hW h4 (by omega) (hM) (rfl))

theorem c_mo_columnPotential {r : Int} (hM : MM E mo n m h sn sm sh e w) (br : -2147483648 ≤ r ∧ r ≤ 2147483647)  : Call E mX4_columnPotential 12 0 0 [vR mo, vI r] w (qI (mP mo w (if 0 ≤ r ∧ r ≤ n - 1 then 0 else 1) (PV n m h r) (fun w' => MM E mo n m h sn sm sh e w') (fun w' => MM E mo n m h sn sm sh e w'))) := by
  refine call_of (av := [(1, mo), (0, r)]) (by decide +kernel) rfl (Nat.le_of_ble_eq_true rfl) ?_
  intro X hX hF hname
  show GG X 0 0 w 0 [(1, mo), (0, r)] []
  have hb := hM.1.b
  have hsb := hM.2.1.2
  skip
  refine g_aload_n (pc' := 1) hX dX4_columnPotential_0 rfl rfl ?_
  refine g_aload_n (pc' := 2) hX dX4_columnPotential_1 rfl rfl ?_
  refine g_iload_n (pc' := 3) hX dX4_columnPotential_2 rfl rfl ?_
  refine gV1E0 (pc' := 6) hX dX4_columnPotential_3 ml_X4_122 gc_X4 hM.1.h0 hM.1.hk (c_m_isRow hM.1 (by omega)) (Nat.le_of_ble_eq_true rfl) (by decide) rfl ?_
  refine g_if_eq (pc' := 9) (tgt := 13) hX dX4_columnPotential_6 (by decide) rfl (by omega) (fun h6 => ?_) (fun h6 => ?_)
  · skip
    refine g_iconst (pc' := 14) hX dX4_columnPotential_13 rfl ?_
    refine gV1I0 (pc' := 17) hX dX4_columnPotential_14 ml_X4_118 gc_X4 hM.1.h0 hM.1.hk (c_m_wrong hM (by omega)) (Nat.le_of_ble_eq_true rfl) (by decide) rfl (fun r14 w14 q14 => ?_)
    obtain ⟨hM, hWA, hR, h4, hr14⟩ := q14
    have hI := hM.1
    have hW : Fr (zB mo) w14 w14 := Fr.rf
    have e0 : r14 = 1 := by omega
    subst e0
    clear hr14
    skip
    refine g_if_eq (pc' := 20) (tgt := 22) hX dX4_columnPotential_17 (by decide) rfl (by omega) (fun h17 => absurd h17 (by omega)) (fun h17 => ?_)
    refine g_iconst (pc' := 21) hX dX4_columnPotential_20 rfl ?_
    exact g_retI hX hF dX4_columnPotential_21 (mP.bad hWA h4 (by omega) (by omega) hM)
  · skip
    refine g_iconst (pc' := 10) hX dX4_columnPotential_9 rfl ?_
    refine g_goto (tgt := 14) hX dX4_columnPotential_10 (by decide) ?_
    refine gV1I0 (pc' := 17) hX dX4_columnPotential_14 ml_X4_118 gc_X4 hM.1.h0 hM.1.hk (c_m_wrong hM (by omega)) (Nat.le_of_ble_eq_true rfl) (by decide) rfl (fun r14 w14 q14 => ?_)
    obtain ⟨hM, hWA, hR, h4, hr14⟩ := q14
    have hI := hM.1
    have hW : Fr (zB mo) w14 w14 := Fr.rf
    have e0 : r14 = 0 := by omega
    subst e0
    clear hr14
    skip
    refine g_if_eq (pc' := 20) (tgt := 22) hX dX4_columnPotential_17 (by decide) rfl (by omega) (fun h17 => ?_) (fun h17 => absurd h17 (by omega))
    refine g_aload_n (pc' := 23) hX dX4_columnPotential_22 rfl rfl ?_
    refine gV0U0 (pc' := 26) hX dX4_columnPotential_23 ml_X4_159 gc_X4 hM.1.h0 hM.1.hk (c_m_findPot hM) (Nat.le_of_ble_eq_true rfl) (by decide) rfl (fun w23 q23 => ?_)
    obtain ⟨hM, hW1, hC, hS, hPU, hPV⟩ := q23
    have hW := hW.tr hW1
    refine g_aload_n (pc' := 27) hX dX4_columnPotential_26 rfl rfl ?_
    refine gf_X4_57 (pc' := 30) hX dX4_columnPotential_27 hM.1.h0 hM.1.hk rfl ?_
    rw [hM.1.f 23 (by decide) (show moF 23 = 11 by decide)]
    refine g_iload_n (pc' := 31) hX dX4_columnPotential_30 rfl rfl ?_
    refine g_ialdL (pc' := 32) hX dX4_columnPotential_31 (by have := hM.1.h0; omega) (hM.1.k 11 (by decide) (show moK 11 = 50 by decide)) (hM.1.l 11 (by decide) (show moN 11 = 7 by decide)) (by omega) rfl ?_
    rw [hPV r (by omega) (by omega)]
    exact g_retI hX hF dX4_columnPotential_32 (mP.okB hWA hW h4 (by omega) (hM) (rfl))

theorem c_m_reduced {r c : Int} (hM : MM E mo n m h sn sm sh e w) (hr : 0 ≤ r ∧ r < n) (hc : 0 ≤ c ∧ c < n) : Call E mX4_reduced 0 0 0 [vR mo, vI r, vI c] w (qE (cw w mo r c - rdw w (mo + 10) r - rdw w (mo + 11) c) w) := by
  refine call_of (av := [(1, mo), (0, r), (0, c)]) (by decide +kernel) rfl (Nat.le_of_ble_eq_true rfl) ?_
  intro X hX hF hname
  show GG X 0 0 w 0 [(1, mo), (0, r), (0, c)] []
  have hb := hM.1.b
  have hsb := hM.2.1.2
  skip
  refine g_aload_n (pc' := 1) hX dX4_reduced_0 rfl rfl ?_
  refine gf_X4_36 (pc' := 4) hX dX4_reduced_1 hM.1.h0 hM.1.hk rfl ?_
  rw [hM.1.f 9 (by decide) (show moF 9 = 5 by decide)]
  refine g_bipush (pc' := 6) hX dX4_reduced_4 rfl rfl ?_
  refine g_iload_n (pc' := 7) hX dX4_reduced_6 rfl rfl ?_
  refine g_imul (pc' := 8) hX dX4_reduced_7 rfl ?_
  refine g_iload_n (pc' := 9) hX dX4_reduced_8 rfl rfl ?_
  refine g_iadd (pc' := 10) hX dX4_reduced_9 rfl ?_
  refine g_ialdL (pc' := 11) hX dX4_reduced_10 (by have := hM.1.h0; omega) (hM.1.k 5 (by decide) (show moK 5 = 50 by decide)) (hM.1.l 5 (by decide) (show moN 5 = 49 by decide)) (by omega) rfl ?_
  refine g_aload_n (pc' := 12) hX dX4_reduced_11 rfl rfl ?_
  refine gf_X4_54 (pc' := 15) hX dX4_reduced_12 hM.1.h0 hM.1.hk rfl ?_
  rw [hM.1.f 22 (by decide) (show moF 22 = 10 by decide)]
  refine g_iload_n (pc' := 16) hX dX4_reduced_15 rfl rfl ?_
  refine g_ialdL (pc' := 17) hX dX4_reduced_16 (by have := hM.1.h0; omega) (hM.1.k 10 (by decide) (show moK 10 = 50 by decide)) (hM.1.l 10 (by decide) (show moN 10 = 7 by decide)) (by omega) rfl ?_
  refine g_isub (pc' := 18) hX dX4_reduced_17 rfl ?_
  refine g_aload_n (pc' := 19) hX dX4_reduced_18 rfl rfl ?_
  refine gf_X4_57 (pc' := 22) hX dX4_reduced_19 hM.1.h0 hM.1.hk rfl ?_
  rw [hM.1.f 23 (by decide) (show moF 23 = 11 by decide)]
  refine g_iload_n (pc' := 23) hX dX4_reduced_22 rfl rfl ?_
  refine g_ialdL (pc' := 24) hX dX4_reduced_23 (by have := hM.1.h0; omega) (hM.1.k 11 (by decide) (show moK 11 = 50 by decide)) (hM.1.l 11 (by decide) (show moN 11 = 7 by decide)) (by omega) rfl ?_
  refine g_isub (pc' := 25) hX dX4_reduced_24 rfl ?_
  exact g_retE hX hF dX4_reduced_25 rfl rfl

theorem c_mo_reducedCost {r c : Int} (hM : MM E mo n m h sn sm sh e w) (br : -2147483648 ≤ r ∧ r ≤ 2147483647) (bc : -2147483648 ≤ c ∧ c ≤ 2147483647)  : Call E mX4_reducedCost 12 0 0 [vR mo, vI r, vI c] w (qI (mP mo w (if 0 ≤ r ∧ r ≤ n - 1 ∧ 0 ≤ c ∧ c ≤ n - 1 then 0 else 1) (tC m h r c - PU n m h r - PV n m h c) (fun w' => MM E mo n m h sn sm sh e w') (fun w' => MM E mo n m h sn sm sh e w'))) := by
  refine call_of (av := [(1, mo), (0, r), (0, c)]) (by decide +kernel) rfl (Nat.le_of_ble_eq_true rfl) ?_
  intro X hX hF hname
  show GG X 0 0 w 0 [(1, mo), (0, r), (0, c)] []
  have hb := hM.1.b
  have hsb := hM.2.1.2
  skip
  refine g_aload_n (pc' := 1) hX dX4_reducedCost_0 rfl rfl ?_
  refine g_aload_n (pc' := 2) hX dX4_reducedCost_1 rfl rfl ?_
  refine g_iload_n (pc' := 3) hX dX4_reducedCost_2 rfl rfl ?_
  refine gV1E0 (pc' := 6) hX dX4_reducedCost_3 ml_X4_122 gc_X4 hM.1.h0 hM.1.hk (c_m_isRow hM.1 (by omega)) (Nat.le_of_ble_eq_true rfl) (by decide) rfl ?_
  refine g_if_eq (pc' := 9) (tgt := 17) hX dX4_reducedCost_6 (by decide) rfl (by omega) (fun h6 => ?_) (fun h6 => ?_)
  · skip
    refine g_iconst (pc' := 18) hX dX4_reducedCost_17 rfl ?_
    refine g_goto (tgt := 22) hX dX4_reducedCost_18 (by decide) ?_
    refine gV1I0 (pc' := 25) hX dX4_reducedCost_22 ml_X4_118 gc_X4 hM.1.h0 hM.1.hk (c_m_wrong hM (by omega)) (Nat.le_of_ble_eq_true rfl) (by decide) rfl (fun r22 w22 q22 => ?_)
    obtain ⟨hM, hWA, hR, h4, hr22⟩ := q22
    have hI := hM.1
    have hW : Fr (zB mo) w22 w22 := Fr.rf
    have e0 : r22 = 1 := by omega
    subst e0
    clear hr22
    skip
    refine g_if_eq (pc' := 28) (tgt := 30) hX dX4_reducedCost_25 (by decide) rfl (by omega) (fun h25 => absurd h25 (by omega)) (fun h25 => ?_)
    refine g_iconst (pc' := 29) hX dX4_reducedCost_28 rfl ?_
    exact g_retI hX hF dX4_reducedCost_29 (mP.bad hWA h4 (by omega) (by omega) hM)
  · skip
    refine g_aload_n (pc' := 10) hX dX4_reducedCost_9 rfl rfl ?_
    refine g_iload_n (pc' := 11) hX dX4_reducedCost_10 rfl rfl ?_
    refine gV1E0 (pc' := 14) hX dX4_reducedCost_11 ml_X4_122 gc_X4 hM.1.h0 hM.1.hk (c_m_isRow hM.1 (by omega)) (Nat.le_of_ble_eq_true rfl) (by decide) rfl ?_
    refine g_if_ne (pc' := 17) (tgt := 21) hX dX4_reducedCost_14 (by decide) rfl (by omega) (fun h14 => ?_) (fun h14 => ?_)
    · skip
      refine g_iconst (pc' := 22) hX dX4_reducedCost_21 rfl ?_
      refine gV1I0 (pc' := 25) hX dX4_reducedCost_22 ml_X4_118 gc_X4 hM.1.h0 hM.1.hk (c_m_wrong hM (by omega)) (Nat.le_of_ble_eq_true rfl) (by decide) rfl (fun r22 w22 q22 => ?_)
      obtain ⟨hM, hWA, hR, h4, hr22⟩ := q22
      have hI := hM.1
      have hW : Fr (zB mo) w22 w22 := Fr.rf
      have e0 : r22 = 0 := by omega
      subst e0
      clear hr22
      skip
      refine g_if_eq (pc' := 28) (tgt := 30) hX dX4_reducedCost_25 (by decide) rfl (by omega) (fun h25 => ?_) (fun h25 => absurd h25 (by omega))
      refine g_aload_n (pc' := 31) hX dX4_reducedCost_30 rfl rfl ?_
      refine gV0U0 (pc' := 34) hX dX4_reducedCost_31 ml_X4_159 gc_X4 hM.1.h0 hM.1.hk (c_m_findPot hM) (Nat.le_of_ble_eq_true rfl) (by decide) rfl (fun w31 q31 => ?_)
      obtain ⟨hM, hW1, hC, hS, hPU, hPV⟩ := q31
      have hW := hW.tr hW1
      refine g_aload_n (pc' := 35) hX dX4_reducedCost_34 rfl rfl ?_
      refine g_iload_n (pc' := 36) hX dX4_reducedCost_35 rfl rfl ?_
      refine g_iload_n (pc' := 37) hX dX4_reducedCost_36 rfl rfl ?_
      refine gV2E0 (pc' := 40) hX dX4_reducedCost_37 ml_X4_162 gc_X4 hM.1.h0 hM.1.hk (c_m_reduced hM (by omega) (by omega)) (Nat.le_of_ble_eq_true rfl) (by decide) rfl ?_
      rw [hC r c (by omega) (by omega) (by omega) (by omega), hPU r (by omega) (by omega), hPV c (by omega) (by omega)]
      exact g_retI hX hF dX4_reducedCost_40 (mP.okB hWA hW h4 (by omega) (hM) (rfl))
    · skip
      refine g_iconst (pc' := 18) hX dX4_reducedCost_17 rfl ?_
      refine g_goto (tgt := 22) hX dX4_reducedCost_18 (by decide) ?_
      refine gV1I0 (pc' := 25) hX dX4_reducedCost_22 ml_X4_118 gc_X4 hM.1.h0 hM.1.hk (c_m_wrong hM (by omega)) (Nat.le_of_ble_eq_true rfl) (by decide) rfl (fun r22 w22 q22 => ?_)
      obtain ⟨hM, hWA, hR, h4, hr22⟩ := q22
      have hI := hM.1
      have hW : Fr (zB mo) w22 w22 := Fr.rf
      have e0 : r22 = 1 := by omega
      subst e0
      clear hr22
      skip
      refine g_if_eq (pc' := 28) (tgt := 30) hX dX4_reducedCost_25 (by decide) rfl (by omega) (fun h25 => absurd h25 (by omega)) (fun h25 => ?_)
      refine g_iconst (pc' := 29) hX dX4_reducedCost_28 rfl ?_
      exact g_retI hX hF dX4_reducedCost_29 (mP.bad hWA h4 (by omega) (by omega) hM)

theorem c_m_savedMinimum (hM : MM E mo n m h sn sm sh e w) : Call E mX4_savedMinimum 11 0 0 [vR mo] w (qI (fun r w' => r = (LK sn sm sh).1 ∧ MM E mo n m h sn sm sh e w' ∧ Fr (zB mo) w w')) := by
  refine call_of (av := [(1, mo)]) (by decide +kernel) rfl (Nat.le_of_ble_eq_true rfl) ?_
  intro X hX hF hname
  show GG X 0 0 w 0 [(1, mo), (9, 0), (9, 0)] []
  have hb := hM.1.b
  have hsb := hM.2.1.2
  have hW : Fr (zB mo) w w := Fr.rf
  refine g_iconst (pc' := 1) hX dX4_savedMinimum_0 rfl ?_
  refine g_istore_n_1 (pc' := 2) hX dX4_savedMinimum_1 (by decide) rfl rfl ?_
  have loop : ∀ (f : Nat) (i : Int) (u : Wd) (x2 : Nat × Int), 0 ≤ i → i ≤ sn → MM E mo n m h sn sm sh e u → Fr (zB mo) w u → (∀ a b : Int, 0 ≤ a → a < i → 0 ≤ b → b < sn → cw u mo a b = tC sm sh a b) → (x2 = (9, 0) ∨ x2.1 = 0) → sn < i + f → GG X 0 0 u 2 [(1, mo), (0, i), x2] [] := by
    intro f
    induction f with
    | zero => intro i u x2 h0 h1 hM hW hA h2 hf; exact absurd hf (by omega)
    | succ f ih =>
      intro i u x2 h0 h1 hM hW hA h2 hf
      refine g_iload_n (pc' := 3) hX dX4_savedMinimum_2 rfl rfl ?_
      refine g_aload_n (pc' := 4) hX dX4_savedMinimum_3 rfl rfl ?_
      refine gf_X4_16 (pc' := 7) hX dX4_savedMinimum_4 hM.1.h0 hM.1.hk rfl ?_
      rw [hM.2.1.1.1]
      refine g_icmp_ge (pc' := 10) (tgt := 49) hX dX4_savedMinimum_7 (by decide) rfl (by omega) (by omega) (fun h7 => ?_) (fun h7 => ?_)
      · skip
        refine g_aload_n (pc' := 50) hX dX4_savedMinimum_49 rfl rfl ?_
        refine g_aload_n (pc' := 51) hX dX4_savedMinimum_50 rfl rfl ?_
        refine gf_X4_16 (pc' := 54) hX dX4_savedMinimum_51 hM.1.h0 hM.1.hk rfl ?_
        rw [hM.2.1.1.1]
        refine gV1U0 (pc' := 57) hX dX4_savedMinimum_54 ml_X4_111 gc_X4 hM.1.h0 hM.1.hk (c_m_look2M (C := tC sm sh) hM (by omega) hM.scB (fun a b a0 a1 b0 b1 => hA a b a0 (by omega) b0 b1)) (Nat.le_of_ble_eq_true rfl) (by decide) rfl (fun w54 q54 => ?_)
        obtain ⟨hM, hW1, hS⟩ := q54
        have hW := hW.tr (hW1.wk (fun a i z => show zB mo a i by unfold zQ at z; unfold zB; omega))
        refine g_aload_n (pc' := 58) hX dX4_savedMinimum_57 rfl rfl ?_
        refine gf_X4_80 (pc' := 61) hX dX4_savedMinimum_58 hM.1.h0 hM.1.hk rfl ?_
        rw [show rdw w54 mo 13 = (LK sn sm sh).1 from hS.1.1]
        exact g_retI hX hF dX4_savedMinimum_61 ⟨rfl, hM, hW⟩
      · skip
        refine g_iconst (pc' := 11) hX dX4_savedMinimum_10 rfl ?_
        refine g_istore_n_2 (pc' := 12) hX dX4_savedMinimum_11 (by decide) rfl rfl ?_
        have loop2 : ∀ (g : Nat) (j : Int) (u2 : Wd), 0 ≤ j → j ≤ sn → MM E mo n m h sn sm sh e u2 → Fr (zB mo) w u2 → (∀ a b : Int, 0 ≤ a → a < i → 0 ≤ b → b < sn → cw u2 mo a b = tC sm sh a b) → (∀ b : Int, 0 ≤ b → b < j → cw u2 mo i b = tC sm sh i b) → sn < j + g → GG X 0 0 u2 12 [(1, mo), (0, i), (0, j)] [] := by
          intro g
          induction g with
          | zero => intro j u2 _ _ _ _ _ _ hg; exact absurd hg (by omega)
          | succ g ih2 =>
            intro j u2 j0 j1 hM hW hA2 hB hg
            refine g_iload_n (pc' := 13) hX dX4_savedMinimum_12 rfl rfl ?_
            refine g_aload_n (pc' := 14) hX dX4_savedMinimum_13 rfl rfl ?_
            refine gf_X4_16 (pc' := 17) hX dX4_savedMinimum_14 hM.1.h0 hM.1.hk rfl ?_
            rw [hM.2.1.1.1]
            refine g_icmp_ge (pc' := 20) (tgt := 43) hX dX4_savedMinimum_17 (by decide) rfl (by omega) (by omega) (fun h17 => ?_) (fun h17 => ?_)
            · skip
              refine g_iinc_1 (pc' := 46) hX dX4_savedMinimum_43 (by decide) rfl rfl ?_
              refine g_goto (tgt := 2) hX dX4_savedMinimum_46 (by decide) ?_
              exact ih (i + 1) u2 (0, j) (by omega) (by omega) hM hW (fun a b a0 a1 b0 b1 => by by_cases e : a = i; (rw [e]; exact hB b b0 (by omega)); (exact hA2 a b a0 (by omega) b0 b1)) (Or.inr rfl) (by omega)
            · skip
              refine g_aload_n (pc' := 21) hX dX4_savedMinimum_20 rfl rfl ?_
              refine gf_X4_36 (pc' := 24) hX dX4_savedMinimum_21 hM.1.h0 hM.1.hk rfl ?_
              rw [hM.1.f 9 (by decide) (show moF 9 = 5 by decide)]
              refine g_bipush (pc' := 26) hX dX4_savedMinimum_24 rfl rfl ?_
              refine g_iload_n (pc' := 27) hX dX4_savedMinimum_26 rfl rfl ?_
              refine g_imul (pc' := 28) hX dX4_savedMinimum_27 rfl ?_
              refine g_iload_n (pc' := 29) hX dX4_savedMinimum_28 rfl rfl ?_
              refine g_iadd (pc' := 30) hX dX4_savedMinimum_29 rfl ?_
              refine g_aload_n (pc' := 31) hX dX4_savedMinimum_30 rfl rfl ?_
              refine g_iload_n (pc' := 32) hX dX4_savedMinimum_31 rfl rfl ?_
              refine g_iload_n (pc' := 33) hX dX4_savedMinimum_32 rfl rfl ?_
              refine gV2E0 (pc' := 36) hX dX4_savedMinimum_33 ml_X4_156 gc_X4 hM.1.h0 hM.1.hk (c_m_savedCost hM (by omega) (by omega)) (Nat.le_of_ble_eq_true rfl) (by decide) rfl ?_
              refine g_iastL (pc' := 37) hX dX4_savedMinimum_36 (by have := hM.1.hb; omega) (hM.1.k 5 (by decide) (show moK 5 = 50 by decide)) (hM.1.l 5 (by decide) (show moN 5 = 49 by decide)) (by omega) rfl ?_
              refine hM.stZ hW (by unfold zZ; omega) (by unfold zB; omega) (fun hM hW => ?_)
              refine g_iinc_2 (pc' := 40) hX dX4_savedMinimum_37 (by decide) rfl rfl ?_
              refine g_goto (tgt := 12) hX dX4_savedMinimum_40 (by decide) ?_
              refine ih2 (j + 1) _ (by omega) (by omega) hM hW (fun a b a0 a1 b0 b1 => ?_) (fun b b0 b1 => ?_) (by omega)
              · unfold cw; rw [rd_up_ne (by omega)]; exact hA2 a b a0 a1 b0 b1
              · unfold cw
                by_cases e : b = j
                · rw [rd_up_eq (by omega), e]
                · rw [rd_up_ne (by omega)]; exact hB b b0 (by omega)
        exact loop2 8 0 u (by omega) (by omega) hM hW hA (fun b b0 b1 => absurd b0 (by omega)) (by omega)
  exact loop 8 0 w (9, 0) (by omega) (by omega) hM hW (fun a b a0 a1 => absurd a0 (by omega)) (Or.inl rfl) (by omega)

def ctW (C : Int → Int → Int) (a : Int) (l : List (List Nat)) : Int := l.foldl (fun s σ => s + if ps C 0 σ ≤ a then 1 else 0) 0
theorem ctW_snoc {C : Int → Int → Int} {a : Int} {l : List (List Nat)} {σ : List Nat} : ctW C a (l ++ [σ]) = ctW C a l + if ps C 0 σ ≤ a then 1 else 0 := by
  unfold ctW; rw [List.foldl_append]; rfl
theorem c_mo_countWithin {a : Int} (hM : MM E mo n m h sn sm sh e w) (ba : -2147483648 ≤ a ∧ a ≤ 2147483647)  : Call E mX4_countWithin 9 0 0 [vR mo, vI a] w (qI (mP mo w (if 0 ≤ a ∧ a ≤ 7000 then 0 else 1) (ctW (tC m h) a (pmN n.toNat)) (fun w' => MM E mo n m h sn sm sh e w') (fun w' => MM E mo n m h sn sm sh e w'))) := by
  refine call_of (av := [(1, mo), (0, a)]) (by decide +kernel) rfl (Nat.le_of_ble_eq_true rfl) ?_
  intro X hX hF hname
  show GG X 0 0 w 0 [(1, mo), (0, a), (9, 0), (9, 0)] []
  have hb := hM.1.b
  have hsb := hM.2.1.2
  skip
  refine g_aload_n (pc' := 1) hX dX4_countWithin_0 rfl rfl ?_
  refine g_iload_n (pc' := 2) hX dX4_countWithin_1 rfl rfl ?_
  refine g_i2l (pc' := 3) hX dX4_countWithin_2 (by omega) rfl ?_
  refine g_lconst (pc' := 4) (v := 0) hX dX4_countWithin_3 rfl rfl ?_
  refine g_ldc2 (pc' := 7) (n := 7000) hX dX4_countWithin_4 q1828 rfl rfl ?_
  refine gS3E0 (pc' := 10) hX dX4_countWithin_7 ml_X4_63 (c_m_isIn (by omega) (by omega) (by omega)) (Nat.le_of_ble_eq_true rfl) (by decide) rfl ?_
  refine g_if_eq (pc' := 13) (tgt := 17) hX dX4_countWithin_10 (by decide) rfl (by omega) (fun h10 => ?_) (fun h10 => ?_)
  · skip
    refine g_iconst (pc' := 18) hX dX4_countWithin_17 rfl ?_
    refine gV1I0 (pc' := 21) hX dX4_countWithin_18 ml_X4_118 gc_X4 hM.1.h0 hM.1.hk (c_m_wrong hM (by omega)) (Nat.le_of_ble_eq_true rfl) (by decide) rfl (fun r18 w18 q18 => ?_)
    obtain ⟨hM, hWA, hR, h4, hr18⟩ := q18
    have hI := hM.1
    have hW : Fr (zB mo) w18 w18 := Fr.rf
    have e0 : r18 = 1 := by omega
    subst e0
    clear hr18
    skip
    refine g_if_eq (pc' := 24) (tgt := 26) hX dX4_countWithin_21 (by decide) rfl (by omega) (fun h21 => absurd h21 (by omega)) (fun h21 => ?_)
    refine g_iconst (pc' := 25) hX dX4_countWithin_24 rfl ?_
    exact g_retI hX hF dX4_countWithin_25 (mP.bad hWA h4 (by omega) (by omega) hM)
  · skip
    refine g_iconst (pc' := 14) hX dX4_countWithin_13 rfl ?_
    refine g_goto (tgt := 18) hX dX4_countWithin_14 (by decide) ?_
    refine gV1I0 (pc' := 21) hX dX4_countWithin_18 ml_X4_118 gc_X4 hM.1.h0 hM.1.hk (c_m_wrong hM (by omega)) (Nat.le_of_ble_eq_true rfl) (by decide) rfl (fun r18 w18 q18 => ?_)
    obtain ⟨hM, hWA, hR, h4, hr18⟩ := q18
    have hI := hM.1
    have hW : Fr (zB mo) w18 w18 := Fr.rf
    have e0 : r18 = 0 := by omega
    subst e0
    clear hr18
    skip
    refine g_if_eq (pc' := 24) (tgt := 26) hX dX4_countWithin_21 (by decide) rfl (by omega) (fun h21 => ?_) (fun h21 => absurd h21 (by omega))
    refine g_aload_n (pc' := 27) hX dX4_countWithin_26 rfl rfl ?_
    refine gV0U0 (pc' := 30) hX dX4_countWithin_27 ml_X4_108 gc_X4 hM.1.h0 hM.1.hk (c_m_takeM hM) (Nat.le_of_ble_eq_true rfl) (by decide) rfl (fun w27 q27 => ?_)
    obtain ⟨hM, hW1, hC⟩ := q27
    have hW := hW.tr (hW1.wk (fun a i z => show zB mo a i by unfold zT at z; unfold zB; omega))
    have hlen := pm_len n.toNat (by omega)
    have hfl := fc_le n.toNat (by omega)
    have hcB := hM.cB2
    refine g_aload_n (pc' := 31) hX dX4_countWithin_30 rfl rfl ?_
    refine gV0U0 (pc' := 34) hX dX4_countWithin_31 ml_X4_95 gc_X4 hM.1.h0 hM.1.hk (c_m_begin hM.1) (Nat.le_of_ble_eq_true rfl) (by decide) rfl (fun w31 q31 => ?_)
    obtain ⟨hI1, hWn, hP⟩ := q31
    have hM := hM.fr hWn (fun a i z => by unfold zP at z; unfold zZ; omega)
    have hW := hW.tr (hWn.wk (fun a i z => show zB mo a i by unfold zP at z; unfold zB; omega))
    have hC : ∀ i j : Int, 0 ≤ i → i < n → 0 ≤ j → j < n → cw w31 mo i j = tC m h i j := fun i j i0 i1 j0 j1 => by rw [cw_fr hWn (by unfold zP; omega)]; exact hC i j i0 i1 j0 j1
    have hP := hP.cg (τ := List.range n.toNat) (by simp; omega) (fun k hk => by simp at hk; rw [range_getD (by omega), range_getD (by omega)])
    refine g_iconst (pc' := 35) hX dX4_countWithin_34 rfl ?_
    refine g_istore_n_2 (pc' := 36) hX dX4_countWithin_35 (by decide) rfl rfl ?_
    refine g_aload_n (pc' := 37) hX dX4_countWithin_36 rfl rfl ?_
    refine gf_X4_7 (pc' := 40) hX dX4_countWithin_37 hM.1.h0 hM.1.hk rfl ?_
    rw [hM.1.vn]
    refine gS1E0 (pc' := 43) hX dX4_countWithin_40 ml_X4_67 (c_m_factorial (by omega) (by omega)) (Nat.le_of_ble_eq_true rfl) (by decide) rfl ?_
    refine g_istore_n_3 (pc' := 44) hX dX4_countWithin_43 (by decide) rfl rfl ?_
    have loop : ∀ (f : Nat) (k idx : Nat) (u : Wd), k + idx = fc n.toNat → MM E mo n m h sn sm sh e u → Fr (zB mo) w18 u → (∀ i j : Int, 0 ≤ i → i < n → 0 ≤ j → j < n → cw u mo i j = tC m h i j) → (∀ σ, (pmN n.toNat)[idx]? = some σ → PA u (mo + 7) σ) → k < f → GG X 0 0 u 44 [(1, mo), (0, a), (0, ctW (tC m h) a ((pmN n.toNat).take idx)), (0, (k : Int))] [] := by
      intro f
      induction f with
      | zero => intro k idx u hk hM hW hC hA hf; exact absurd hf (by omega)
      | succ f ih =>
        intro k idx u hk hM hW hC hA hf
        refine g_iload_n (pc' := 45) hX dX4_countWithin_44 rfl rfl ?_
        refine g_if_le (pc' := 48) (tgt := 82) hX dX4_countWithin_45 (by decide) rfl (by omega) (fun h45 => ?_) (fun h45 => ?_)
        · skip
          refine g_iload_n (pc' := 83) hX dX4_countWithin_82 rfl rfl ?_
          exact g_retI hX hF dX4_countWithin_83 (mP.okB hWA hW h4 (by omega) (hM) (by rw [show idx = fc n.toNat by omega, ← hlen, List.take_length]))
        · skip
          have hidx : idx < (pmN n.toNat).length := by rw [hlen]; omega
          obtain ⟨σ, hσ⟩ : ∃ σ, (pmN n.toNat)[idx]? = some σ := ⟨_, List.getElem?_eq_getElem hidx⟩
          have hP := hA σ hσ
          obtain ⟨hσ1, hσ2, hσ3⟩ := pmN_mem.mp (List.mem_of_getElem? hσ)
          have hpb := pm_bnd (C := tC m h) (n := n.toNat) (by omega) hcB σ (List.mem_of_getElem? hσ)
          have hpc := ps_cg (C := cw u mo) (C' := tC m h) (sz := n) (fun i j i0 i1 j0 j1 => hC i j i0 i1 j0 j1) (σ := σ) (i := 0) (by omega) (by omega) (fun x hx => by have := hσ3 x hx; omega)
          have hsum := c_m_sum hM.1 hP (by omega) (fun k hk => by have := hσ3 _ (getD_mem hk); omega)
          rw [hσ1, Int.toNat_of_nonneg (show 0 ≤ n by omega), hpc] at hsum
          refine g_iload_n (pc' := 49) hX dX4_countWithin_48 rfl rfl ?_
          refine g_aload_n (pc' := 50) hX dX4_countWithin_49 rfl rfl ?_
          refine g_aload_n (pc' := 51) hX dX4_countWithin_50 rfl rfl ?_
          refine gf_X4_7 (pc' := 54) hX dX4_countWithin_51 hM.1.h0 hM.1.hk rfl ?_
          rw [hM.1.vn]
          refine gV1E0 (pc' := 57) hX dX4_countWithin_54 ml_X4_98 gc_X4 hM.1.h0 hM.1.hk hsum (Nat.le_of_ble_eq_true rfl) (by decide) rfl ?_
          refine g_iload_n (pc' := 58) hX dX4_countWithin_57 rfl rfl ?_
          refine g_icmp_gt (pc' := 61) (tgt := 65) hX dX4_countWithin_58 (by decide) rfl (by omega) (by omega) (fun h58 => ?_) (fun h58 => ?_)
          · skip
            refine g_iconst (pc' := 66) hX dX4_countWithin_65 rfl ?_
            refine g_iadd (pc' := 67) hX dX4_countWithin_66 rfl ?_
            refine g_istore_n_2 (pc' := 68) hX dX4_countWithin_67 (by decide) rfl rfl ?_
            refine g_aload_n (pc' := 69) hX dX4_countWithin_68 rfl rfl ?_
            refine g_aload_n (pc' := 70) hX dX4_countWithin_69 rfl rfl ?_
            refine gf_X4_7 (pc' := 73) hX dX4_countWithin_70 hM.1.h0 hM.1.hk rfl ?_
            rw [hM.1.vn]
            have hgo := c_m_goOn hM.1 hP (by omega) (by omega) (fun k hk => by have := hσ3 _ (getD_mem hk); omega)
            rw [hσ1, Int.toNat_of_nonneg (show 0 ≤ n by omega)] at hgo
            refine gV1U0 (pc' := 76) hX dX4_countWithin_73 ml_X4_104 gc_X4 hM.1.h0 hM.1.hk hgo (Nat.le_of_ble_eq_true rfl) (by decide) rfl (fun w73 q73 => ?_)
            obtain ⟨hI1, hWn, hP⟩ := q73
            have hM := hM.fr hWn (fun a i z => by unfold zP at z; unfold zZ; omega)
            have hW := hW.tr (hWn.wk (fun a i z => show zB mo a i by unfold zP at z; unfold zB; omega))
            have hC : ∀ i j : Int, 0 ≤ i → i < n → 0 ≤ j → j < n → cw w73 mo i j = tC m h i j := fun i j i0 i1 j0 j1 => by rw [cw_fr hWn (by unfold zP; omega)]; exact hC i j i0 i1 j0 j1
            refine g_iinc_3 (pc' := 79) hX dX4_countWithin_76 (by decide) rfl rfl ?_
            refine g_goto (tgt := 44) hX dX4_countWithin_79 (by decide) ?_
            have ex := ih (k - 1) (idx + 1) _ (by omega) hM hW hC (fun τ hτ => by rw [← nchk_at (nchk_ok n.toNat (by omega)) hσ hτ]; exact hP) (by omega)
            rw [take_snoc hσ, ctW_snoc] at ex
            rw [show ((k : Int) + -1) = ((k - 1 : Nat) : Int) by omega]
            first
              | (rw [if_pos (by omega)] at ex; exact ex)
              | (rw [if_neg (by omega), Int.add_zero] at ex; rw [Int.add_zero]; exact ex)
          · skip
            refine g_iconst (pc' := 62) hX dX4_countWithin_61 rfl ?_
            refine g_goto (tgt := 66) hX dX4_countWithin_62 (by decide) ?_
            refine g_iadd (pc' := 67) hX dX4_countWithin_66 rfl ?_
            refine g_istore_n_2 (pc' := 68) hX dX4_countWithin_67 (by decide) rfl rfl ?_
            refine g_aload_n (pc' := 69) hX dX4_countWithin_68 rfl rfl ?_
            refine g_aload_n (pc' := 70) hX dX4_countWithin_69 rfl rfl ?_
            refine gf_X4_7 (pc' := 73) hX dX4_countWithin_70 hM.1.h0 hM.1.hk rfl ?_
            rw [hM.1.vn]
            have hgo := c_m_goOn hM.1 hP (by omega) (by omega) (fun k hk => by have := hσ3 _ (getD_mem hk); omega)
            rw [hσ1, Int.toNat_of_nonneg (show 0 ≤ n by omega)] at hgo
            refine gV1U0 (pc' := 76) hX dX4_countWithin_73 ml_X4_104 gc_X4 hM.1.h0 hM.1.hk hgo (Nat.le_of_ble_eq_true rfl) (by decide) rfl (fun w73 q73 => ?_)
            obtain ⟨hI1, hWn, hP⟩ := q73
            have hM := hM.fr hWn (fun a i z => by unfold zP at z; unfold zZ; omega)
            have hW := hW.tr (hWn.wk (fun a i z => show zB mo a i by unfold zP at z; unfold zB; omega))
            have hC : ∀ i j : Int, 0 ≤ i → i < n → 0 ≤ j → j < n → cw w73 mo i j = tC m h i j := fun i j i0 i1 j0 j1 => by rw [cw_fr hWn (by unfold zP; omega)]; exact hC i j i0 i1 j0 j1
            refine g_iinc_3 (pc' := 79) hX dX4_countWithin_76 (by decide) rfl rfl ?_
            refine g_goto (tgt := 44) hX dX4_countWithin_79 (by decide) ?_
            have ex := ih (k - 1) (idx + 1) _ (by omega) hM hW hC (fun τ hτ => by rw [← nchk_at (nchk_ok n.toNat (by omega)) hσ hτ]; exact hP) (by omega)
            rw [take_snoc hσ, ctW_snoc] at ex
            rw [show ((k : Int) + -1) = ((k - 1 : Nat) : Int) by omega]
            first
              | (rw [if_pos (by omega)] at ex; exact ex)
              | (rw [if_neg (by omega), Int.add_zero] at ex; rw [Int.add_zero]; exact ex)
    exact loop (fc n.toNat + 1) (fc n.toNat) 0 _ (by omega) hM hW hC (fun σ hσ => by
      have h := pm_first n.toNat (by omega)
      rw [List.head?_eq_getElem?] at h
      cases h.symm.trans hσ
      exact hP) (by omega)

theorem c_mo_startEnumeration (hM : MM E mo n m h sn sm sh e w)   : Call E mX4_startEnumeration 9 0 0 [vR mo] w (qI (mP mo w (if 6 < n then 1 else 0) ((fc n.toNat : Int)) (fun w' => MM E mo n m h sn sm sh (0, -1, 0, e.cu) w') (fun w' => MM E mo n m h sn sm sh e w'))) := by
  refine call_of (av := [(1, mo)]) (by decide +kernel) rfl (Nat.le_of_ble_eq_true rfl) ?_
  intro X hX hF hname
  show GG X 0 0 w 0 [(1, mo)] []
  have hb := hM.1.b
  have hsb := hM.2.1.2
  skip
  refine g_aload_n (pc' := 1) hX dX4_startEnumeration_0 rfl rfl ?_
  refine g_aload_n (pc' := 2) hX dX4_startEnumeration_1 rfl rfl ?_
  refine gf_X4_7 (pc' := 5) hX dX4_startEnumeration_2 hM.1.h0 hM.1.hk rfl ?_
  rw [hM.1.vn]
  refine g_bipush (pc' := 7) hX dX4_startEnumeration_5 rfl rfl ?_
  refine g_icmp_le (pc' := 10) (tgt := 14) hX dX4_startEnumeration_7 (by decide) rfl (by omega) (by omega) (fun h7 => ?_) (fun h7 => ?_)
  · skip
    refine g_iconst (pc' := 15) hX dX4_startEnumeration_14 rfl ?_
    refine gV1I0 (pc' := 18) hX dX4_startEnumeration_15 ml_X4_118 gc_X4 hM.1.h0 hM.1.hk (c_m_wrong hM (by omega)) (Nat.le_of_ble_eq_true rfl) (by decide) rfl (fun r15 w15 q15 => ?_)
    obtain ⟨hM, hWA, hR, h4, hr15⟩ := q15
    have hI := hM.1
    have hW : Fr (zB mo) w15 w15 := Fr.rf
    have e0 : r15 = 0 := by omega
    subst e0
    clear hr15
    skip
    refine g_if_eq (pc' := 21) (tgt := 23) hX dX4_startEnumeration_18 (by decide) rfl (by omega) (fun h18 => ?_) (fun h18 => absurd h18 (by omega))
    refine g_aload_n (pc' := 24) hX dX4_startEnumeration_23 rfl rfl ?_
    refine g_iconst (pc' := 25) hX dX4_startEnumeration_24 rfl ?_
    refine pf_X4_48 (pc' := 28) hX dX4_startEnumeration_25 hM.1.hb hM.1.hk rfl ?_
    skip
    refine g_aload_n (pc' := 29) hX dX4_startEnumeration_28 rfl rfl ?_
    refine g_iconst (pc' := 30) hX dX4_startEnumeration_29 rfl ?_
    refine pf_X4_172 (pc' := 33) hX dX4_startEnumeration_30 hM.1.hb hM.1.hk rfl ?_
    skip
    refine g_aload_n (pc' := 34) hX dX4_startEnumeration_33 rfl rfl ?_
    refine g_iconst (pc' := 35) hX dX4_startEnumeration_34 rfl ?_
    refine pf_X4_175 (pc' := 38) hX dX4_startEnumeration_35 hM.1.hb hM.1.hk rfl ?_
    have hF3 := ((Fr.rf (P := fun a i => a = mo ∧ 18 ≤ i ∧ i ≤ 20) (w := w15)).up (a := mo) (i := 18) (x := 0) ⟨rfl, by omega, by omega⟩).up (a := mo) (i := 19) (x := -1) ⟨rfl, by omega, by omega⟩ |>.up (a := mo) (i := 20) (x := 0) ⟨rfl, by omega, by omega⟩
    have hM : MM E mo n m h sn sm sh (0, -1, 0, e.cu) (upw (upw (upw w15 mo 18 0) mo 19 (-1)) mo 20 0) := ⟨hM.1.fr hF3 (fun i z => by omega), hM.2.1.fr hF3 (fun i z => by omega), hM.2.2.1.fr hF3 (fun i z => by omega) (fun i z => by omega), hM.2.2.2.1.fr hF3 (fun i z => by omega) (fun i z => by omega), ⟨by rw [rd_up_ne (by omega), rd_up_ne (by omega), rd_up_eq ⟨rfl, rfl⟩], by rw [rd_up_ne (by omega), rd_up_eq ⟨rfl, rfl⟩], rd_up_eq ⟨rfl, rfl⟩⟩, ⟨show (-1 : Int) ≤ 0 by omega, show (0 : Int) ≤ 5040 by omega⟩, ⟨show (-1 : Int) ≤ -1 by omega, show (-1 : Int) ≤ 1000000 by omega⟩, ⟨show (0 : Int) ≤ 0 by omega, show (0 : Int) ≤ 5040 by omega⟩, fun i i0 i1 => by rw [hF3.rd _ _ (by omega)]; exact hM.2.2.2.2.2.2.2.2 i i0 i1⟩
    have hW := hW.tr (hF3.wk (fun a i z => show zB mo a i by unfold zB; omega))
    refine g_aload_n (pc' := 39) hX dX4_startEnumeration_38 rfl rfl ?_
    refine gf_X4_7 (pc' := 42) hX dX4_startEnumeration_39 hM.1.h0 hM.1.hk rfl ?_
    first
      | rw [hM.1.vn]
      | (repeat rw [rd_up_ne (by omega)]); rw [hM.1.vn]
    refine gS1E0 (pc' := 45) hX dX4_startEnumeration_42 ml_X4_67 (c_m_factorial (by omega) (by omega)) (Nat.le_of_ble_eq_true rfl) (by decide) rfl ?_
    exact g_retI hX hF dX4_startEnumeration_45 (mP.okB hWA hW h4 (by omega) (hM) (rfl))
  · skip
    refine g_iconst (pc' := 11) hX dX4_startEnumeration_10 rfl ?_
    refine g_goto (tgt := 15) hX dX4_startEnumeration_11 (by decide) ?_
    refine gV1I0 (pc' := 18) hX dX4_startEnumeration_15 ml_X4_118 gc_X4 hM.1.h0 hM.1.hk (c_m_wrong hM (by omega)) (Nat.le_of_ble_eq_true rfl) (by decide) rfl (fun r15 w15 q15 => ?_)
    obtain ⟨hM, hWA, hR, h4, hr15⟩ := q15
    have hI := hM.1
    have hW : Fr (zB mo) w15 w15 := Fr.rf
    have e0 : r15 = 1 := by omega
    subst e0
    clear hr15
    skip
    refine g_if_eq (pc' := 21) (tgt := 23) hX dX4_startEnumeration_18 (by decide) rfl (by omega) (fun h18 => absurd h18 (by omega)) (fun h18 => ?_)
    refine g_iconst (pc' := 22) hX dX4_startEnumeration_21 rfl ?_
    exact g_retI hX hF dX4_startEnumeration_22 (mP.bad hWA h4 (by omega) (by omega) hM)

theorem c_mo_currentColumn {r : Int} (hM : MM E mo n m h sn sm sh e w) (br : -2147483648 ≤ r ∧ r ≤ 2147483647)  : Call E mX4_currentColumn 2 0 0 [vR mo, vI r] w (qI (mP mo w (if ¬ (0 ≤ r ∧ r ≤ n - 1) then 1 else if e.k < 1 then 2 else 0) (e.cu r) (fun w' => MM E mo n m h sn sm sh e w') (fun w' => MM E mo n m h sn sm sh e w'))) := by
  refine call_of (av := [(1, mo), (0, r)]) (by decide +kernel) rfl (Nat.le_of_ble_eq_true rfl) ?_
  intro X hX hF hname
  show GG X 0 0 w 0 [(1, mo), (0, r)] []
  have hb := hM.1.b
  have hsb := hM.2.1.2
  skip
  refine g_aload_n (pc' := 1) hX dX4_currentColumn_0 rfl rfl ?_
  refine g_aload_n (pc' := 2) hX dX4_currentColumn_1 rfl rfl ?_
  refine g_iload_n (pc' := 3) hX dX4_currentColumn_2 rfl rfl ?_
  refine gV1E0 (pc' := 6) hX dX4_currentColumn_3 ml_X4_122 gc_X4 hM.1.h0 hM.1.hk (c_m_isRow hM.1 (by omega)) (Nat.le_of_ble_eq_true rfl) (by decide) rfl ?_
  refine g_if_ne (pc' := 9) (tgt := 13) hX dX4_currentColumn_6 (by decide) rfl (by omega) (fun h6 => ?_) (fun h6 => ?_)
  · skip
    refine g_aload_n (pc' := 14) hX dX4_currentColumn_13 rfl rfl ?_
    refine gf_X4_48 (pc' := 17) hX dX4_currentColumn_14 hM.1.h0 hM.1.hk rfl ?_
    rw [hM.2.2.2.2.1.1]
    have hek := hM.2.2.2.2.2.1
    refine g_iconst (pc' := 18) hX dX4_currentColumn_17 rfl ?_
    refine g_icmp_ge (pc' := 21) (tgt := 25) hX dX4_currentColumn_18 (by decide) rfl (by omega) (by omega) (fun h18 => ?_) (fun h18 => ?_)
    · skip
      refine g_iconst (pc' := 26) hX dX4_currentColumn_25 rfl ?_
      refine gV1I0 (pc' := 29) hX dX4_currentColumn_26 ml_X4_118 gc_X4 hM.1.h0 hM.1.hk (c_m_wrong hM (by omega)) (Nat.le_of_ble_eq_true rfl) (by decide) rfl (fun r26 w26 q26 => ?_)
      obtain ⟨hM, hWA, hR, h4, hr26⟩ := q26
      have hI := hM.1
      have hW : Fr (zB mo) w26 w26 := Fr.rf
      have e0 : r26 = 0 := by omega
      subst e0
      clear hr26
      skip
      refine g_if_eq (pc' := 32) (tgt := 36) hX dX4_currentColumn_29 (by decide) rfl (by omega) (fun h29 => ?_) (fun h29 => absurd h29 (by omega))
      refine g_aload_n (pc' := 37) hX dX4_currentColumn_36 rfl rfl ?_
      refine gf_X4_51 (pc' := 40) hX dX4_currentColumn_37 hM.1.h0 hM.1.hk rfl ?_
      rw [hM.1.f 21 (by decide) (show moF 21 = 9 by decide)]
      refine g_iload_n (pc' := 41) hX dX4_currentColumn_40 rfl rfl ?_
      refine g_ialdL (pc' := 42) hX dX4_currentColumn_41 (by have := hM.1.h0; omega) (hM.1.k 9 (by decide) (show moK 9 = 50 by decide)) (hM.1.l 9 (by decide) (show moN 9 = 7 by decide)) (by omega) rfl ?_
      rw [(hM.2.2.2.2.2.2.2.2 r (by omega) (by omega)).1]
      exact g_retI hX hF dX4_currentColumn_42 (mP.okB hWA hW h4 (by omega) (hM) (rfl))
    · skip
      refine g_iconst (pc' := 22) hX dX4_currentColumn_21 rfl ?_
      refine g_goto (tgt := 26) hX dX4_currentColumn_22 (by decide) ?_
      refine gV1I0 (pc' := 29) hX dX4_currentColumn_26 ml_X4_118 gc_X4 hM.1.h0 hM.1.hk (c_m_wrong hM (by omega)) (Nat.le_of_ble_eq_true rfl) (by decide) rfl (fun r26 w26 q26 => ?_)
      obtain ⟨hM, hWA, hR, h4, hr26⟩ := q26
      have hI := hM.1
      have hW : Fr (zB mo) w26 w26 := Fr.rf
      have e0 : r26 = 1 := by omega
      subst e0
      clear hr26
      skip
      refine g_if_eq (pc' := 32) (tgt := 36) hX dX4_currentColumn_29 (by decide) rfl (by omega) (fun h29 => absurd h29 (by omega)) (fun h29 => ?_)
      refine g_iconst (pc' := 33) hX dX4_currentColumn_32 rfl ?_
      refine g_goto (tgt := 42) hX dX4_currentColumn_33 (by decide) ?_
      exact g_retI hX hF dX4_currentColumn_42 (mP.bad hWA h4 (by omega) (by omega) hM)
  · skip
    refine g_iconst (pc' := 10) hX dX4_currentColumn_9 rfl ?_
    refine g_goto (tgt := 26) hX dX4_currentColumn_10 (by decide) ?_
    refine gV1I0 (pc' := 29) hX dX4_currentColumn_26 ml_X4_118 gc_X4 hM.1.h0 hM.1.hk (c_m_wrong hM (by omega)) (Nat.le_of_ble_eq_true rfl) (by decide) rfl (fun r26 w26 q26 => ?_)
    obtain ⟨hM, hWA, hR, h4, hr26⟩ := q26
    have hI := hM.1
    have hW : Fr (zB mo) w26 w26 := Fr.rf
    have e0 : r26 = 1 := by omega
    subst e0
    clear hr26
    skip
    refine g_if_eq (pc' := 32) (tgt := 36) hX dX4_currentColumn_29 (by decide) rfl (by omega) (fun h29 => absurd h29 (by omega)) (fun h29 => ?_)
    refine g_iconst (pc' := 33) hX dX4_currentColumn_32 rfl ?_
    refine g_goto (tgt := 42) hX dX4_currentColumn_33 (by decide) ?_
    exact g_retI hX hF dX4_currentColumn_42 (mP.bad hWA h4 (by omega) (by omega) hM)

end M10
