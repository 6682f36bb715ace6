/-! MODEL: looking over all assignments (by gen/spec_m5.py) -/
set_option maxRecDepth 100000
set_option maxHeartbeats 4000000
section M5
variable {E : Ev} {mo n m : Int} {w : Wd}
theorem c_m_look2 {sz : Nat} (hI : MI E mo n m w) (h1 : 1 ≤ sz) (h7 : sz ≤ 7) (hC : bC (cw w mo) sz) :
    Call E mX4_look_2 9 0 0 [vR mo, vI (sz : Int)] w (qU (fun w' => MI E mo n m w' ∧ Fr (zQ mo) w w' ∧ LSx mo (lkF (cw w mo) (pmN sz)) (lwF (cw w mo) (pmN sz)) w')) := by
  refine call_of (av := [(1, mo), (0, (sz : Int))]) (by decide +kernel) rfl (Nat.le_of_ble_eq_true rfl) ?_
  intro X hX hF hname
  show GG X 0 0 w 0 [(1, mo), (0, (sz : Int)), (9, 0)] []
  have hW : Fr (zQ mo) w w := Fr.rf
  have hlen := pm_len sz (by omega)
  have hfl := fc_le sz (by omega)
  have hbd := pm_bnd (by omega) hC
  have hf1 : 1 ≤ fc sz := by
    have h := pm_first sz (by omega)
    cases hp : pmN sz with
    | nil => rw [hp] at h; simp at h
    | cons x l => rw [hp] at hlen; simp at hlen; omega
  refine g_aload_n (pc' := 1) hX dX4_look_2_0 rfl rfl ?_
  refine g_ldc (pc' := 3) (n := 1000000) hX dX4_look_2_1 q1735 rfl rfl ?_
  refine pf_X4_80 (pc' := 6) hX dX4_look_2_3 hI.hb hI.hk rfl ?_
  refine hI.step hW (by omega) (by unfold zQ; omega) (fun hI hW => ?_)
  refine g_aload_n (pc' := 7) hX dX4_look_2_6 rfl rfl ?_
  refine g_iconst (pc' := 8) hX dX4_look_2_7 rfl ?_
  refine pf_X4_83 (pc' := 11) hX dX4_look_2_8 hI.hb hI.hk rfl ?_
  refine hI.step hW (by omega) (by unfold zQ; omega) (fun hI hW => ?_)
  refine g_aload_n (pc' := 12) hX dX4_look_2_11 rfl rfl ?_
  refine g_ldc (pc' := 14) (n := 1000000) hX dX4_look_2_12 q1735 rfl rfl ?_
  refine pf_X4_86 (pc' := 17) hX dX4_look_2_14 hI.hb hI.hk rfl ?_
  refine hI.step hW (by omega) (by unfold zQ; omega) (fun hI hW => ?_)
  refine g_aload_n (pc' := 18) hX dX4_look_2_17 rfl rfl ?_
  refine g_iconst (pc' := 19) hX dX4_look_2_18 rfl ?_
  refine pf_X4_89 (pc' := 22) hX dX4_look_2_19 hI.hb hI.hk rfl ?_
  refine hI.step hW (by omega) (by unfold zQ; omega) (fun hI hW => ?_)
  refine g_aload_n (pc' := 23) hX dX4_look_2_22 rfl rfl ?_
  refine g_ldc (pc' := 25) (n := 1000000) hX dX4_look_2_23 q1735 rfl rfl ?_
  refine pf_X4_92 (pc' := 28) hX dX4_look_2_25 hI.hb hI.hk rfl ?_
  refine hI.step hW (by omega) (by unfold zQ; omega) (fun hI hW => ?_)
  have hfs : rdw (upw (upw (upw (upw (upw w mo 13 1000000) mo 14 0) mo 15 1000000) mo 16 (-1)) mo 17 1000000) mo 13 = 1000000 ∧ rdw (upw (upw (upw (upw (upw w mo 13 1000000) mo 14 0) mo 15 1000000) mo 16 (-1)) mo 17 1000000) mo 14 = 0 ∧ rdw (upw (upw (upw (upw (upw w mo 13 1000000) mo 14 0) mo 15 1000000) mo 16 (-1)) mo 17 1000000) mo 15 = 1000000 ∧ rdw (upw (upw (upw (upw (upw w mo 13 1000000) mo 14 0) mo 15 1000000) mo 16 (-1)) mo 17 1000000) mo 16 = -1 ∧ rdw (upw (upw (upw (upw (upw w mo 13 1000000) mo 14 0) mo 15 1000000) mo 16 (-1)) mo 17 1000000) mo 17 = 1000000 := by
    refine ⟨?_, ?_, ?_, ?_, ?_⟩ <;> (repeat (first | rw [rd_up_ne (by omega)] | rw [rd_up_eq ⟨rfl, rfl⟩]))
  generalize upw (upw (upw (upw (upw w mo 13 1000000) mo 14 0) mo 15 1000000) mo 16 (-1)) mo 17 1000000 = w0 at hI hW hfs ⊢
  refine g_iconst (pc' := 29) hX dX4_look_2_28 rfl ?_
  refine g_istore_n_2 (pc' := 30) hX dX4_look_2_29 (by decide) rfl rfl ?_
  have loop : ∀ (f : Nat) (i : Int) (w1 : Wd), 0 ≤ i → i ≤ 49 → MI E mo n m w1 → Fr (zQ mo) w w1 → (rdw w1 mo 13 = 1000000 ∧ rdw w1 mo 14 = 0 ∧ rdw w1 mo 15 = 1000000 ∧ rdw w1 mo 16 = -1 ∧ rdw w1 mo 17 = 1000000) → (∀ k : Int, 0 ≤ k → k < i → rdw w1 (mo + 6) k = 1000000) → 49 < i + f → GG X 0 0 w1 30 [(1, mo), (0, (sz : Int)), (0, i)] [] := by
    intro f
    induction f with
    | zero => intro i w1 h0 h49 hI hW hfs hA hf; exact absurd hf (by omega)
    | succ f ih =>
      intro i w1 h0 h49 hI hW hfs hA hf
      refine g_iload_n (pc' := 31) hX dX4_look_2_30 rfl rfl ?_
      refine g_bipush (pc' := 33) hX dX4_look_2_31 rfl rfl ?_
      refine g_icmp_ge (pc' := 36) (tgt := 50) hX dX4_look_2_33 (by decide) rfl (by omega) (by omega) (fun h33 => ?_) (fun h33 => ?_)
      · skip
        refine g_aload_n (pc' := 51) hX dX4_look_2_50 rfl rfl ?_
        refine gV0U0 (pc' := 54) hX dX4_look_2_51 ml_X4_95 gc_X4 hI.h0 hI.hk (c_m_begin hI) (Nat.le_of_ble_eq_true rfl) (by decide) rfl (fun w51 q51 => ?_)
        obtain ⟨hI, hWn, hP⟩ := q51
        have hS : LSx mo lk0 (fun _ => 1000000) w51 := by
          refine ⟨⟨?_, ?_, ?_, ?_, ?_⟩, fun i h0 h1 => absurd h1 (by simp [lk0]; omega), fun k k0 k1 => ?_⟩
          · rw [hWn.rd _ _ (by unfold zP; omega)]; exact hfs.1
          · rw [hWn.rd _ _ (by unfold zP; omega)]; exact hfs.2.1
          · rw [hWn.rd _ _ (by unfold zP; omega)]; exact hfs.2.2.1
          · rw [hWn.rd _ _ (by unfold zP; omega)]; exact hfs.2.2.2.1
          · rw [hWn.rd _ _ (by unfold zP; omega)]; exact hfs.2.2.2.2
          · rw [hWn.rd _ _ (by unfold zP; omega)]; exact hA k k0 (by omega)
        have hW := hW.tr (hWn.wk (fun a i h => show zQ mo a i by unfold zP at h; unfold zQ; omega))
        have hP := hP.cg (τ := List.range sz) (by simp; omega) (fun k hk => by simp at hk; rw [range_getD (by omega), range_getD (by omega)])
        refine g_iload_n (pc' := 55) hX dX4_look_2_54 rfl rfl ?_
        refine gS1E0 (pc' := 58) hX dX4_look_2_55 ml_X4_67 (c_m_factorial (by omega) (by omega)) (Nat.le_of_ble_eq_true rfl) (Nat.le_refl _) rfl ?_
        rw [Int.toNat_natCast]
        refine g_istore_n_2 (pc' := 59) hX dX4_look_2_58 (by decide) rfl rfl ?_
        have loop : ∀ (f : Nat) (k idx : Nat) (w1 : Wd), k + idx = fc sz → MI E mo n m w1 → Fr (zQ mo) w w1 → LSx mo (lkF (cw w mo) ((pmN sz).take idx)) (lwF (cw w mo) ((pmN sz).take idx)) w1 → (∀ σ, (pmN sz)[idx]? = some σ → PA w1 (mo + 7) σ) → k < f → GG X 0 0 w1 59 [(1, mo), (0, (sz : Int)), (0, (k : Int))] [] := by
          intro f
          induction f with
          | zero => intro k idx w1 hk hI hW hS hA hf; exact absurd hf (by omega)
          | succ f ih =>
            intro k idx w1 hk hI hW hS hA hf
            refine g_iload_n (pc' := 60) hX dX4_look_2_59 rfl rfl ?_
            refine g_if_le (pc' := 63) (tgt := 84) hX dX4_look_2_60 (by decide) rfl (by omega) (fun h60 => ?_) (fun h60 => ?_)
            · skip
              exact g_retU hX hF dX4_look_2_84 ⟨hI, hW, by rw [show idx = fc sz by omega, ← hlen, List.take_length] at hS; exact hS⟩
            · skip
              have hidx : idx < (pmN sz).length := by omega
              obtain ⟨σ, hσ⟩ : ∃ σ, (pmN sz)[idx]? = some σ := ⟨_, List.getElem?_eq_getElem hidx⟩
              have hP := hA σ hσ
              obtain ⟨hσ1, hσ2, hσ3⟩ := pmN_mem.mp (List.mem_of_getElem? hσ)
              have hσ4 : ∀ x ∈ σ, (x : Int) < (σ.length : Int) := fun x hx => by have := hσ3 x hx; omega
              have hcw := cw_fr (mo := mo) hW (by unfold zQ; omega)
              have hsum := c_m_sum hI hP (by omega) (fun k hk => by have := hσ3 _ (getD_mem hk); omega)
              have hsee := c_m_see (σ := σ) (s := ps (cw w mo) 0 σ) hI hP (by omega) hσ4 (by rw [hcw, hσ1]; exact hC) (by rw [hcw]) hS (by
                have h := bL_take (C := cw w mo) hbd idx (by omega)
                exact ⟨h.1, ⟨h.2.1.1, Int.le_trans h.2.1.2 (by omega)⟩, h.2.2⟩) (fun k _ _ => bW_take (C := cw w mo) (fun σ h => (hbd σ h).1) idx (by omega) k)
              rw [hσ1] at hsum hsee
              rw [hcw] at hsum hsee
              refine g_aload_n (pc' := 64) hX dX4_look_2_63 rfl rfl ?_
              refine g_iload_n (pc' := 65) hX dX4_look_2_64 rfl rfl ?_
              refine g_aload_n (pc' := 66) hX dX4_look_2_65 rfl rfl ?_
              refine g_iload_n (pc' := 67) hX dX4_look_2_66 rfl rfl ?_
              refine gV1E0 (pc' := 70) hX dX4_look_2_67 ml_X4_98 gc_X4 hI.h0 hI.hk hsum (Nat.le_of_ble_eq_true rfl) (by decide) rfl ?_
              refine gV2U0 (pc' := 73) hX dX4_look_2_70 ml_X4_101 gc_X4 hI.h0 hI.hk hsee (Nat.le_of_ble_eq_true rfl) (by decide) rfl (fun w70 q70 => ?_)
              obtain ⟨hI, hWn, hS⟩ := q70
              have hP := hP.fr hWn (fun i => by unfold zS; omega)
              have hW := hW.tr (hWn.wk (fun a i h => show zQ mo a i by unfold zS at h; unfold zQ; omega))
              have hgo := c_m_goOn hI hP (by omega) (by omega) (fun k hk => by have := hσ3 _ (getD_mem hk); omega)
              rw [hσ1] at hgo
              refine g_aload_n (pc' := 74) hX dX4_look_2_73 rfl rfl ?_
              refine g_iload_n (pc' := 75) hX dX4_look_2_74 rfl rfl ?_
              refine gV1U0 (pc' := 78) hX dX4_look_2_75 ml_X4_104 gc_X4 hI.h0 hI.hk hgo (Nat.le_of_ble_eq_true rfl) (by decide) rfl (fun w75 q75 => ?_)
              obtain ⟨hI, hWn, hP⟩ := q75
              have hS : LSx mo (stp (cw w mo) (lkF (cw w mo) ((pmN sz).take idx)) σ) (seeW σ (ps (cw w mo) 0 σ) (lwF (cw w mo) ((pmN sz).take idx))) w75 := by
                refine ⟨⟨?_, ?_, ?_, ?_, ?_⟩, hS.2.1.fr hWn (fun i => by unfold zP; omega), fun k k0 k1 => ?_⟩
                · rw [hWn.rd _ _ (by unfold zP; omega)]; exact hS.1.1
                · rw [hWn.rd _ _ (by unfold zP; omega)]; exact hS.1.2.1
                · rw [hWn.rd _ _ (by unfold zP; omega)]; exact hS.1.2.2.1
                · rw [hWn.rd _ _ (by unfold zP; omega)]; exact hS.1.2.2.2.1
                · rw [hWn.rd _ _ (by unfold zP; omega)]; exact hS.1.2.2.2.2
                · rw [hWn.rd _ _ (by unfold zP; omega)]; exact hS.2.2 k k0 k1
              have hW := hW.tr (hWn.wk (fun a i h => show zQ mo a i by unfold zP at h; unfold zQ; omega))
              refine g_iinc_2 (pc' := 81) hX dX4_look_2_78 (by decide) rfl rfl ?_
              refine g_goto (tgt := 59) hX dX4_look_2_81 (by decide) ?_
              have hk1 : ((k : Int) + -1) = ((k - 1 : Nat) : Int) := by omega
              rw [hk1]
              exact ih (k - 1) (idx + 1) _ (by omega) hI hW (by rw [take_snoc hσ, lkF_snoc, lwF_snoc]; exact hS) (fun τ hτ => by rw [← nchk_at (nchk_ok sz (by omega)) hσ hτ]; exact hP) (by omega)
        exact loop (fc sz + 1) (fc sz) 0 _ (by omega) hI hW hS (fun σ hσ => by
          have h := pm_first sz (by omega)
          rw [List.head?_eq_getElem?] at h
          cases h.symm.trans hσ
          exact hP) (by omega)
      · skip
        refine g_aload_n (pc' := 37) hX dX4_look_2_36 rfl rfl ?_
        refine gf_X4_39 (pc' := 40) hX dX4_look_2_37 hI.h0 hI.hk rfl ?_
        rw [hI.f 10 (by decide) (show moF 10 = 6 by decide)]
        refine g_iload_n (pc' := 41) hX dX4_look_2_40 rfl rfl ?_
        refine g_ldc (pc' := 43) (n := 1000000) hX dX4_look_2_41 q1735 rfl rfl ?_
        refine g_iastL (pc' := 44) hX dX4_look_2_43 (by have := hI.hb; omega) (hI.k 6 (by decide) (show moK 6 = 50 by decide)) (hI.l 6 (by decide) (show moN 6 = 49 by decide)) (by omega) rfl ?_
        refine hI.step hW (by omega) (by unfold zQ; omega) (fun hI hW => ?_)
        refine g_iinc_2 (pc' := 47) hX dX4_look_2_44 (by decide) rfl rfl ?_
        refine g_goto (tgt := 30) hX dX4_look_2_47 (by decide) ?_
        exact ih (i + 1) _ (by omega) (by omega) hI hW ⟨(rd_up_ne (by omega)).trans hfs.1, (rd_up_ne (by omega)).trans hfs.2.1, (rd_up_ne (by omega)).trans hfs.2.2.1, (rd_up_ne (by omega)).trans hfs.2.2.2.1, (rd_up_ne (by omega)).trans hfs.2.2.2.2⟩ (fun k k0 k1 => by
          by_cases e : k = i
          · rw [rd_up_eq ⟨rfl, e⟩]
          · rw [rd_up_ne (fun z => e z.2)]; exact hA k k0 (by omega)) (by omega)
  exact loop 50 0 w0 (by omega) (by omega) hI hW hfs (fun k k0 k1 => absurd k0 (by omega)) (by omega)

theorem c_m_look (hI : MI E mo n m w) (hT : ∀ k : Int, 0 ≤ k → k < 49 → rdw w (mo + 3) k = 0 ∨ rdw w (mo + 3) k = 1) (hC : bC (mcost w mo) n) :
    Call E mX4_look 10 0 0 [vR mo] w (qU (fun w' => MI E mo n m w' ∧ Fr (zL mo) w w' ∧ (∀ i j : Int, 0 ≤ i → i < n → 0 ≤ j → j < n → cw w' mo i j = mcost w mo i j) ∧ ∃ C, (∀ i j : Int, 0 ≤ i → i < n → 0 ≤ j → j < n → C i j = mcost w mo i j) ∧ LSx mo (lkF C (pmN n.toNat)) (lwF C (pmN n.toNat)) w')) := by
  refine call_of (av := [(1, mo)]) (by decide +kernel) rfl (Nat.le_of_ble_eq_true rfl) ?_
  intro X hX hF hname
  show GG X 0 0 w 0 [(1, mo)] []
  have hb := hI.b
  refine g_aload_n (pc' := 1) hX dX4_look_0 rfl rfl ?_
  refine gV0U0 (pc' := 4) hX dX4_look_1 ml_X4_108 gc_X4 hI.h0 hI.hk (c_m_take hI hT) (Nat.le_of_ble_eq_true rfl) (by decide) rfl (fun w1 q1 => ?_)
  obtain ⟨hI, hW, hA⟩ := q1
  have hlk := c_m_look2 (sz := n.toNat) hI (by omega) (by omega) (fun i j a b c d => by rw [hA i j a (by omega) c (by omega)]; exact hC i j a (by omega) c (by omega))
  rw [Int.toNat_of_nonneg (by omega)] at hlk
  refine g_aload_n (pc' := 5) hX dX4_look_4 rfl rfl ?_
  refine g_aload_n (pc' := 6) hX dX4_look_5 rfl rfl ?_
  refine gf_X4_7 (pc' := 9) hX dX4_look_6 hI.h0 hI.hk rfl ?_
  rw [hI.vn]
  refine gV1U0 (pc' := 12) hX dX4_look_9 ml_X4_111 gc_X4 hI.h0 hI.hk hlk (Nat.le_of_ble_eq_true rfl) (by decide) rfl (fun w9 q9 => ?_)
  obtain ⟨hI, hW2, hS⟩ := q9
  exact g_retU hX hF dX4_look_12 ⟨hI, (hW.wk (fun a i h => show zL mo a i by unfold zT at h; unfold zL; omega)).tr (hW2.wk (fun a i h => show zL mo a i by unfold zQ at h; unfold zL; omega)), fun i j a b c d => by rw [cw_fr hW2 (by unfold zQ; omega)]; exact hA i j a b c d, _, hA, hS⟩

end M5
