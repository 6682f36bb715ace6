/-! MODEL: additions, distance, a look with the state (by gen/spec_m8.py) -/
set_option maxRecDepth 100000
set_option maxHeartbeats 4000000
theorem al_all {f : Int → Int} : ∀ {k : Nat}, al f k = 1 → ∀ j : Int, 0 ≤ j → j < k → f j = 1
  | 0, _, j, h0, h1 => absurd h1 (by omega)
  | k + 1, h, j, h0, h1 => by
    unfold al at h
    split at h
    · rename_i h2
      by_cases e : j = k
      · rw [e]; exact h2.2
      · exact al_all h2.1 j h0 (by omega)
    · omega
theorem tk_1 {h : Int → Int → Int} {v r c : Int} (ht : tk h v r c = 1) : 0 ≤ h r c ∧ 0 ≤ h r c + v ∧ h r c + v ≤ 99 := by
  unfold tk at ht; split at ht <;> omega
theorem lkF_cg {C C' : Int → Int → Int} : ∀ {l : List (List Nat)}, (∀ σ ∈ l, ps C 0 σ = ps C' 0 σ ∧ pd C 0 σ 0 = pd C' 0 σ 0) → lkF C l = lkF C' l := by
  intro l hl
  unfold lkF
  have : ∀ (l : List (List Nat)) (p : LKt), (∀ σ ∈ l, ps C 0 σ = ps C' 0 σ ∧ pd C 0 σ 0 = pd C' 0 σ 0) → l.foldl (stp C) p = l.foldl (stp C') p := by
    intro l
    induction l with
    | nil => intro p _; rfl
    | cons σ l ih =>
      intro p h
      rw [List.foldl_cons, List.foldl_cons, ih _ (fun τ ht => h τ (List.mem_cons_of_mem _ ht))]
      have h1 := h σ List.mem_cons_self
      unfold stp
      rw [h1.1, h1.2]
  exact this l lk0 hl
theorem lwF_cg {C C' : Int → Int → Int} {l : List (List Nat)} (hl : ∀ σ ∈ l, ps C 0 σ = ps C' 0 σ) : lwF C l = lwF C' l := by
  unfold lwF
  have : ∀ (l : List (List Nat)) (p : Int → Int), (∀ σ ∈ l, ps C 0 σ = ps C' 0 σ) → l.foldl (fun wf σ => seeW σ (ps C 0 σ) wf) p = l.foldl (fun wf σ => seeW σ (ps C' 0 σ) wf) p := by
    intro l
    induction l with
    | nil => intro p _; rfl
    | cons σ l ih =>
      intro p h
      rw [List.foldl_cons, List.foldl_cons, ih _ (fun τ ht => h τ (List.mem_cons_of_mem _ ht)), h σ List.mem_cons_self]
  exact this l _ hl
theorem ps_cg {C C' : Int → Int → Int} {sz : Int} (h : ∀ i j : Int, 0 ≤ i → i < sz → 0 ≤ j → j < sz → C i j = C' i j) : ∀ {σ : List Nat} {i : Int}, 0 ≤ i → i + σ.length ≤ sz → (∀ x ∈ σ, (x : Int) < sz) → ps C i σ = ps C' i σ
  | [], _, _, _, _ => rfl
  | x :: σ, i, h0, h1, h2 => by
    simp only [List.length_cons] at h1
    simp only [ps]
    rw [h i x h0 (by omega) (by omega) (h2 x List.mem_cons_self), ps_cg h (by omega) (by omega) (fun y hy => h2 y (List.mem_cons_of_mem _ hy))]
theorem pd_cg {C C' : Int → Int → Int} {sz : Int} (h : ∀ i j : Int, 0 ≤ i → i < sz → 0 ≤ j → j < sz → C i j = C' i j) : ∀ {σ : List Nat} {i a : Int}, 0 ≤ i → i + σ.length ≤ sz → (∀ x ∈ σ, (x : Int) < sz) → pd C i σ a = pd C' i σ a
  | [], _, _, _, _, _ => rfl
  | x :: σ, i, a, h0, h1, h2 => by
    simp only [List.length_cons] at h1
    simp only [pd]
    rw [h i x h0 (by omega) (by omega) (h2 x List.mem_cons_self), pd_cg h (by omega) (by omega) (fun y hy => h2 y (List.mem_cons_of_mem _ hy))]
theorem pm_cg {C C' : Int → Int → Int} {n : Nat} (h : ∀ i j : Int, 0 ≤ i → i < n → 0 ≤ j → j < n → C i j = C' i j) : ∀ σ ∈ pmN n, ps C 0 σ = ps C' 0 σ ∧ pd C 0 σ 0 = pd C' 0 σ 0 := by
  intro σ hσ
  obtain ⟨h1, h2, h3⟩ := pmN_mem.mp hσ
  exact ⟨ps_cg (sz := n) h (by omega) (by omega) (fun x hx => by have := h3 x hx; omega), pd_cg (sz := n) h (by omega) (by omega) (fun x hx => by have := h3 x hx; omega)⟩
def LK (n m : Int) (h : Int → Int → Int) : LKt := lkF (tC m h) (pmN n.toNat)
def LW (n m : Int) (h : Int → Int → Int) : Int → Int := lwF (tC m h) (pmN n.toNat)
section M8
variable {E : Ev} {mo n m sn sm : Int} {h sh : Int → Int → Int} {e : En} {w : Wd}
theorem MM.cB (hM : MM E mo n m h sn sm sh e w) : bC (tC m h) n := fun i j i0 i1 j0 j1 => by
  have := hM.1.b
  exact tC_b (hM.hb i j (by omega) (by omega))
theorem MM.scB (hM : MM E mo n m h sn sm sh e w) : bC (tC sm sh) sn := fun i j i0 i1 j0 j1 => by
  have := hM.2.1.2
  exact tC_b (hM.shb i j (by omega) (by omega))
theorem c_m_lookM (hM : MM E mo n m h sn sm sh e w) : Call E mX4_look 10 0 0 [vR mo] w (qU (fun w' => MM E mo n m h sn sm sh e w' ∧ Fr (zL mo) w w' ∧ (∀ i j : Int, 0 ≤ i → i < n → 0 ≤ j → j < n → cw w' mo i j = tC m h i j) ∧ LSx mo (LK n m h) (LW n m h) w')) := by
  have hb := hM.1.b
  have he : ∀ i j : Int, 0 ≤ i → i < n → 0 ≤ j → j < n → mcost w mo i j = tC m h i j := fun i j i0 i1 j0 j1 => hM.2.2.1.mc hM.1.vm (by omega) (by omega)
  refine (c_m_look hM.1 hM.fb (fun i j i0 i1 j0 j1 => by rw [he i j i0 i1 j0 j1]; exact hM.cB i j i0 i1 j0 j1)).imp (fun o v w1 hq => ?_)
  obtain ⟨rfl, rfl, hI, hF, hc, C, hC, hS⟩ := hq
  refine ⟨rfl, rfl, hM.fr hF (fun a i z => by unfold zL at z; unfold zZ; omega), hF, fun i j i0 i1 j0 j1 => (hc i j i0 i1 j0 j1).trans (he i j i0 i1 j0 j1), ?_⟩
  have hp := pm_cg (C := C) (C' := tC m h) (n := n.toNat) (fun i j i0 i1 j0 j1 => (hC i j i0 (by omega) j0 (by omega)).trans (he i j i0 (by omega) j0 (by omega)))
  rw [lkF_cg hp, lwF_cg (fun σ hs => (hp σ hs).1)] at hS
  exact hS
theorem c_mo_addToRow {r v : Int} (hM : MM E mo n m h sn sm sh e w) (br : -2147483648 ≤ r ∧ r ≤ 2147483647) (bv : -2147483648 ≤ v ∧ v ≤ 2147483647)  : Call E mX4_addToRow 3 0 0 [vR mo, vI r, vI v] w (qI (mP mo w (if ¬ (0 ≤ r ∧ r ≤ n - 1) then 1 else if ¬ (-99 ≤ v ∧ v ≤ 99) then 2 else if ¬ (m = n ∧ al (tk h v r) m.toNat = 1) then 3 else 0) (rS n m (fun x y => if x = r ∧ y < m then h x y + v else h x y) r) (fun w' => MM E mo n m (fun x y => if x = r ∧ y < m then h x y + v else h x y) sn sm sh e.off w') (fun w' => MM E mo n m h sn sm sh e w'))) := by
  refine call_of (av := [(1, mo), (0, r), (0, v)]) (by decide +kernel) rfl (Nat.le_of_ble_eq_true rfl) ?_
  intro X hX hF hname
  show GG X 0 0 w 0 [(1, mo), (0, r), (0, v), (9, 0), (9, 0)] []
  have hb := hM.1.b
  have hsb := hM.2.1.2
  skip
  have c68 : ∀ (is j : Int), (is = 0 ∨ is = 1) → (0 ≤ r ∧ r ≤ n - 1 → (-99 ≤ v ∧ v ≤ 99) → (is = 1 ↔ (m = n ∧ al (tk h v r) m.toNat = 1))) → GG X 0 0 w 68 [(1, mo), (0, r), (0, v), (0, is), (0, j)] [] := by
    intro is j h01 his
    refine g_aload_n (pc' := 69) hX dX4_addToRow_68 rfl rfl ?_
    refine g_aload_n (pc' := 70) hX dX4_addToRow_69 rfl rfl ?_
    refine g_iload_n (pc' := 71) hX dX4_addToRow_70 rfl rfl ?_
    refine gV1E0 (pc' := 74) hX dX4_addToRow_71 ml_X4_122 gc_X4 hM.1.h0 hM.1.hk (c_m_isRow hM.1 (by omega)) (Nat.le_of_ble_eq_true rfl) (by decide) rfl ?_
    refine g_if_ne (pc' := 77) (tgt := 81) hX dX4_addToRow_74 (by decide) rfl (by omega) (fun h74 => ?_) (fun h74 => ?_)
    · skip
      refine g_iload_n (pc' := 82) hX dX4_addToRow_81 rfl rfl ?_
      refine g_i2l (pc' := 83) hX dX4_addToRow_82 (by omega) rfl ?_
      refine g_ldc2 (pc' := 86) (n := -99) hX dX4_addToRow_83 q1650 rfl rfl ?_
      refine g_ldc2 (pc' := 89) (n := 99) hX dX4_addToRow_86 q1619 rfl rfl ?_
      refine gS3E0 (pc' := 92) hX dX4_addToRow_89 ml_X4_63 (c_m_isIn (by omega) (by omega) (by omega)) (Nat.le_of_ble_eq_true rfl) (by decide) rfl ?_
      refine g_if_ne (pc' := 95) (tgt := 99) hX dX4_addToRow_92 (by decide) rfl (by omega) (fun h92 => ?_) (fun h92 => ?_)
      · skip
        refine g_iload_n (pc' := 100) hX dX4_addToRow_99 rfl rfl ?_
        refine g_if_ne (pc' := 103) (tgt := 107) hX dX4_addToRow_100 (by decide) rfl (by omega) (fun h100 => ?_) (fun h100 => ?_)
        · skip
          refine g_iconst (pc' := 108) hX dX4_addToRow_107 rfl ?_
          refine gV1I0 (pc' := 111) hX dX4_addToRow_108 ml_X4_118 gc_X4 hM.1.h0 hM.1.hk (c_m_wrong hM (by omega)) (Nat.le_of_ble_eq_true rfl) (by decide) rfl (fun r108 w108 q108 => ?_)
          obtain ⟨hM, hWA, hR, h4, hr108⟩ := q108
          have hI := hM.1
          have hW : Fr (zB mo) w108 w108 := Fr.rf
          have e0 : r108 = 0 := by omega
          subst e0
          clear hr108
          skip
          refine g_if_eq (pc' := 114) (tgt := 116) hX dX4_addToRow_111 (by decide) rfl (by omega) (fun h111 => ?_) (fun h111 => absurd h111 (by omega))
          have hal : al (tk h v r) m.toNat = 1 := by omega
          refine g_iconst (pc' := 117) hX dX4_addToRow_116 rfl ?_
          refine g_istore_4 (pc' := 119) hX dX4_addToRow_117 (by decide) rfl rfl ?_
          have loop : ∀ (f : Nat) (j : Int) (h1 : Int → Int → Int) (w1 : Wd), 0 ≤ j → j ≤ m → MM E mo n m h1 sn sm sh e w1 → Fr (zB mo) w108 w1 → (∀ x y : Int, 0 ≤ x → x < 7 → 0 ≤ y → y < 7 → h1 x y = if x = r ∧ y < j then h x y + v else h x y) → m < j + f → GG X 0 0 w1 119 [(1, mo), (0, r), (0, v), (0, is), (0, j)] [] := by
            intro f
            induction f with
            | zero => intro j h1 w1 h0 h7 hM hW hA hf; exact absurd hf (by omega)
            | succ f ih =>
              intro j h1 w1 h0 h7 hM hW hA hf
              have hj1 : j < m → 0 ≤ h r j ∧ 0 ≤ h r j + v ∧ h r j + v ≤ 99 := fun hj => tk_1 (al_all hal j h0 (by omega))
              refine g_iload (pc' := 121) hX dX4_addToRow_119 rfl rfl ?_
              refine g_aload_n (pc' := 122) hX dX4_addToRow_121 rfl rfl ?_
              refine gf_X4_13 (pc' := 125) hX dX4_addToRow_122 hM.1.h0 hM.1.hk rfl ?_
              rw [hM.1.vm]
              refine g_icmp_ge (pc' := 128) (tgt := 150) hX dX4_addToRow_125 (by decide) rfl (by omega) (by omega) (fun h125 => ?_) (fun h125 => ?_)
              · skip
                refine g_aload_n (pc' := 151) hX dX4_addToRow_150 rfl rfl ?_
                refine g_iconst (pc' := 152) hX dX4_addToRow_151 rfl ?_
                refine pf_X4_48 (pc' := 155) hX dX4_addToRow_152 hM.1.hb hM.1.hk rfl ?_
                refine hM.stO hW (by unfold zB; omega) (fun hM hW => ?_)
                have hM := hM.cg (h' := fun x y => if x = r ∧ y < m then h x y + v else h x y) (fun x y x0 x1 y0 y1 => by rw [hA x y x0 x1 y0 y1]; (repeat' split) <;> first | rfl | omega)
                refine g_aload_n (pc' := 156) hX dX4_addToRow_155 rfl rfl ?_
                refine g_iload_n (pc' := 157) hX dX4_addToRow_156 rfl rfl ?_
                refine gV1E0 (pc' := 160) hX dX4_addToRow_157 ml_X4_144 gc_X4 hM.1.h0 hM.1.hk (c_m_rowSum hM (by omega)) (Nat.le_of_ble_eq_true rfl) (by decide) rfl ?_
                exact g_retI hX hF dX4_addToRow_160 (mP.okB hWA hW h4 (by omega) (hM) (rfl))
              · skip
                refine g_aload_n (pc' := 129) hX dX4_addToRow_128 rfl rfl ?_
                refine gf_X4_22 (pc' := 132) hX dX4_addToRow_129 hM.1.h0 hM.1.hk rfl ?_
                rw [hM.1.f 5 (by decide) (show moF 5 = 1 by decide)]
                refine g_bipush (pc' := 134) hX dX4_addToRow_132 rfl rfl ?_
                refine g_iload_n (pc' := 135) hX dX4_addToRow_134 rfl rfl ?_
                refine g_imul (pc' := 136) hX dX4_addToRow_135 rfl ?_
                refine g_iload (pc' := 138) hX dX4_addToRow_136 rfl rfl ?_
                refine g_iadd (pc' := 139) hX dX4_addToRow_138 rfl ?_
                refine g_dup2 (pc' := 140) hX dX4_addToRow_139 (vI_cat _) (vR_cat _) rfl ?_
                refine g_ialdL (pc' := 141) hX dX4_addToRow_140 (by have := hM.1.h0; omega) (hM.1.k 1 (by decide) (show moK 1 = 50 by decide)) (hM.1.l 1 (by decide) (show moN 1 = 49 by decide)) (by omega) rfl ?_
                rw [show rdw w1 (mo + 1) (7 * r + j) = h r j from by rw [hM.2.2.1.v r j (by omega) (by omega), hA r j (by omega) (by omega) (by omega) (by omega), if_neg (by omega)]; unfold hno; rw [if_neg (by omega)]]
                refine g_iload_n (pc' := 142) hX dX4_addToRow_141 rfl rfl ?_
                refine g_iadd (pc' := 143) hX dX4_addToRow_142 rfl ?_
                refine g_iastL (pc' := 144) hX dX4_addToRow_143 (by have := hM.1.hb; omega) (hM.1.k 1 (by decide) (show moK 1 = 50 by decide)) (hM.1.l 1 (by decide) (show moN 1 = 49 by decide)) (by omega) rfl ?_
                refine hM.stN hW (by omega) (by unfold zB; omega) (fun hM hW => ?_)
                refine g_iinc_4 (pc' := 147) hX dX4_addToRow_144 (by decide) rfl rfl ?_
                refine g_goto (tgt := 119) hX dX4_addToRow_147 (by decide) ?_
                exact ih (j + 1) _ _ (by omega) (by omega) hM hW (fun x y x0 x1 y0 y1 => by
                  have hj := hA x y x0 x1 y0 y1
                  by_cases he : 7 * x + y = 7 * r + j
                  · simp only [if_pos he]
                    have e1 : x = r := by omega
                    have e2 : y = j := by omega
                    subst e1; subst e2
                    rw [if_neg (by omega)] at hj
                    rw [hj, if_pos (by omega)]
                    unfold hhd hfg; omega
                  · simp only [if_neg he]
                    rw [hj]
                    (repeat' split) <;> first | rfl | omega) (by omega)
          exact loop 8 0 h w108 (by omega) (by omega) hM hW (fun x y x0 x1 y0 y1 => by rw [if_neg (by omega)]) (by omega)
        · skip
          refine g_iconst (pc' := 104) hX dX4_addToRow_103 rfl ?_
          refine g_goto (tgt := 108) hX dX4_addToRow_104 (by decide) ?_
          refine gV1I0 (pc' := 111) hX dX4_addToRow_108 ml_X4_118 gc_X4 hM.1.h0 hM.1.hk (c_m_wrong hM (by omega)) (Nat.le_of_ble_eq_true rfl) (by decide) rfl (fun r108 w108 q108 => ?_)
          obtain ⟨hM, hWA, hR, h4, hr108⟩ := q108
          have hI := hM.1
          have hW : Fr (zB mo) w108 w108 := Fr.rf
          have e0 : r108 = 1 := by omega
          subst e0
          clear hr108
          skip
          refine g_if_eq (pc' := 114) (tgt := 116) hX dX4_addToRow_111 (by decide) rfl (by omega) (fun h111 => absurd h111 (by omega)) (fun h111 => ?_)
          refine g_iconst (pc' := 115) hX dX4_addToRow_114 rfl ?_
          exact g_retI hX hF dX4_addToRow_115 (mP.bad hWA h4 (by omega) (by omega) hM)
      · skip
        refine g_iconst (pc' := 96) hX dX4_addToRow_95 rfl ?_
        refine g_goto (tgt := 108) hX dX4_addToRow_96 (by decide) ?_
        refine gV1I0 (pc' := 111) hX dX4_addToRow_108 ml_X4_118 gc_X4 hM.1.h0 hM.1.hk (c_m_wrong hM (by omega)) (Nat.le_of_ble_eq_true rfl) (by decide) rfl (fun r108 w108 q108 => ?_)
        obtain ⟨hM, hWA, hR, h4, hr108⟩ := q108
        have hI := hM.1
        have hW : Fr (zB mo) w108 w108 := Fr.rf
        have e0 : r108 = 1 := by omega
        subst e0
        clear hr108
        skip
        refine g_if_eq (pc' := 114) (tgt := 116) hX dX4_addToRow_111 (by decide) rfl (by omega) (fun h111 => absurd h111 (by omega)) (fun h111 => ?_)
        refine g_iconst (pc' := 115) hX dX4_addToRow_114 rfl ?_
        exact g_retI hX hF dX4_addToRow_115 (mP.bad hWA h4 (by omega) (by omega) hM)
    · skip
      refine g_iconst (pc' := 78) hX dX4_addToRow_77 rfl ?_
      refine g_goto (tgt := 108) hX dX4_addToRow_78 (by decide) ?_
      refine gV1I0 (pc' := 111) hX dX4_addToRow_108 ml_X4_118 gc_X4 hM.1.h0 hM.1.hk (c_m_wrong hM (by omega)) (Nat.le_of_ble_eq_true rfl) (by decide) rfl (fun r108 w108 q108 => ?_)
      obtain ⟨hM, hWA, hR, h4, hr108⟩ := q108
      have hI := hM.1
      have hW : Fr (zB mo) w108 w108 := Fr.rf
      have e0 : r108 = 1 := by omega
      subst e0
      clear hr108
      skip
      refine g_if_eq (pc' := 114) (tgt := 116) hX dX4_addToRow_111 (by decide) rfl (by omega) (fun h111 => absurd h111 (by omega)) (fun h111 => ?_)
      refine g_iconst (pc' := 115) hX dX4_addToRow_114 rfl ?_
      exact g_retI hX hF dX4_addToRow_115 (mP.bad hWA h4 (by omega) (by omega) hM)
  have c16 : GG X 0 0 w 16 [(1, mo), (0, r), (0, v), (9, 0), (9, 0)] [vI (if m = n then 1 else 0)] := by
    skip
    refine g_istore_n_3 (pc' := 17) hX dX4_addToRow_16 (by decide) rfl rfl ?_
    refine g_iconst (pc' := 18) hX dX4_addToRow_17 rfl ?_
    refine g_istore_4 (pc' := 20) hX dX4_addToRow_18 (by decide) rfl rfl ?_
    have loop : ∀ (f : Nat) (is j : Int), 0 ≤ j → j ≤ m → (is = 0 ∨ is = 1) → (is = 1 ↔ (m = n ∧ al (tk h v r) j.toNat = 1)) → m < j + f → GG X 0 0 w 20 [(1, mo), (0, r), (0, v), (0, is), (0, j)] [] := by
      intro f
      induction f with
      | zero => intro is j h0 h7 h01 hA hf; exact absurd hf (by omega)
      | succ f ih =>
        intro is j h0 h7 h01 hA hf
        refine g_aload_n (pc' := 21) hX dX4_addToRow_20 rfl rfl ?_
        refine g_iload_n (pc' := 22) hX dX4_addToRow_21 rfl rfl ?_
        refine gV1E0 (pc' := 25) hX dX4_addToRow_22 ml_X4_122 gc_X4 hM.1.h0 hM.1.hk (c_m_isRow hM.1 (by omega)) (Nat.le_of_ble_eq_true rfl) (by decide) rfl ?_
        refine g_if_eq (pc' := 28) (tgt := 68) hX dX4_addToRow_25 (by decide) rfl (by omega) (fun h25 => ?_) (fun h25 => ?_)
        · skip
          exact c68 _ _ h01 (fun z1 z2 => by
            first
              | (exfalso; omega)
              | (rw [show j = m by omega] at hA; exact hA))
        · skip
          refine g_iload_n (pc' := 29) hX dX4_addToRow_28 rfl rfl ?_
          refine g_i2l (pc' := 30) hX dX4_addToRow_29 (by omega) rfl ?_
          refine g_ldc2 (pc' := 33) (n := -99) hX dX4_addToRow_30 q1650 rfl rfl ?_
          refine g_ldc2 (pc' := 36) (n := 99) hX dX4_addToRow_33 q1619 rfl rfl ?_
          refine gS3E0 (pc' := 39) hX dX4_addToRow_36 ml_X4_63 (c_m_isIn (by omega) (by omega) (by omega)) (Nat.le_of_ble_eq_true rfl) (by decide) rfl ?_
          refine g_if_eq (pc' := 42) (tgt := 68) hX dX4_addToRow_39 (by decide) rfl (by omega) (fun h39 => ?_) (fun h39 => ?_)
          · skip
            exact c68 _ _ h01 (fun z1 z2 => by
              first
                | (exfalso; omega)
                | (rw [show j = m by omega] at hA; exact hA))
          · skip
            refine g_iload (pc' := 44) hX dX4_addToRow_42 rfl rfl ?_
            refine g_aload_n (pc' := 45) hX dX4_addToRow_44 rfl rfl ?_
            refine gf_X4_13 (pc' := 48) hX dX4_addToRow_45 hM.1.h0 hM.1.hk rfl ?_
            rw [hM.1.vm]
            refine g_icmp_ge (pc' := 51) (tgt := 68) hX dX4_addToRow_48 (by decide) rfl (by omega) (by omega) (fun h48 => ?_) (fun h48 => ?_)
            · skip
              exact c68 _ _ h01 (fun z1 z2 => by
                first
                  | (exfalso; omega)
                  | (rw [show j = m by omega] at hA; exact hA))
            · skip
              refine g_iload_n (pc' := 52) hX dX4_addToRow_51 rfl rfl ?_
              refine g_aload_n (pc' := 53) hX dX4_addToRow_52 rfl rfl ?_
              refine g_iload_n (pc' := 54) hX dX4_addToRow_53 rfl rfl ?_
              refine g_iload (pc' := 56) hX dX4_addToRow_54 rfl rfl ?_
              refine g_iload_n (pc' := 57) hX dX4_addToRow_56 rfl rfl ?_
              refine gV3E0 (pc' := 60) hX dX4_addToRow_57 ml_X4_140 gc_X4 hM.1.h0 hM.1.hk (c_m_takes hM (by omega) (by omega) (by omega)) (Nat.le_of_ble_eq_true rfl) (by decide) rfl ?_
              refine g_iand (pc' := 61) (if is = 1 ∧ tk h v r j = 1 then 1 else 0) hX dX4_addToRow_60 (and01 h01 tk_01) rfl ?_
              refine g_istore_n_3 (pc' := 62) hX dX4_addToRow_61 (by decide) rfl rfl ?_
              refine g_iinc_4 (pc' := 65) hX dX4_addToRow_62 (by decide) rfl rfl ?_
              refine g_goto (tgt := 20) hX dX4_addToRow_65 (by decide) ?_
              exact ih _ (j + 1) (by omega) (by omega) (by split <;> simp) (by rw [al_s h0]; have ht := tk_01 (h := h) (v := v) (r := r) (c := j); omega) (by omega)
    exact loop 8 _ 0 (by omega) (by omega) (by split <;> simp) (by by_cases hmn : m = n <;> simp [al, hmn]) (by omega)
  refine g_aload_n (pc' := 1) hX dX4_addToRow_0 rfl rfl ?_
  refine gf_X4_13 (pc' := 4) hX dX4_addToRow_1 hM.1.h0 hM.1.hk rfl ?_
  rw [hM.1.vm]
  refine g_aload_n (pc' := 5) hX dX4_addToRow_4 rfl rfl ?_
  refine gf_X4_7 (pc' := 8) hX dX4_addToRow_5 hM.1.h0 hM.1.hk rfl ?_
  rw [hM.1.vn]
  refine g_icmp_ne (pc' := 11) (tgt := 15) hX dX4_addToRow_8 (by decide) rfl (by omega) (by omega) (fun h8 => ?_) (fun h8 => ?_)
  · skip
    refine g_iconst (pc' := 16) hX dX4_addToRow_15 rfl ?_
    first
      | (rw [if_pos (by omega)] at c16; exact c16)
      | (rw [if_neg (by omega)] at c16; exact c16)
  · skip
    refine g_iconst (pc' := 12) hX dX4_addToRow_11 rfl ?_
    refine g_goto (tgt := 16) hX dX4_addToRow_12 (by decide) ?_
    first
      | (rw [if_pos (by omega)] at c16; exact c16)
      | (rw [if_neg (by omega)] at c16; exact c16)

theorem c_mo_addToColumn {c v : Int} (hM : MM E mo n m h sn sm sh e w) (bc : -2147483648 ≤ c ∧ c ≤ 2147483647) (bv : -2147483648 ≤ v ∧ v ≤ 2147483647)  : Call E mX4_addToColumn 3 0 0 [vR mo, vI c, vI v] w (qI (mP mo w (if ¬ (0 ≤ c ∧ c ≤ m - 1) then 1 else if ¬ (-99 ≤ v ∧ v ≤ 99) then 2 else if ¬ (al (fun i => tk h v i c) n.toNat = 1) then 3 else 0) (clS n m (fun x y => if x < n ∧ y = c then h x y + v else h x y) c) (fun w' => MM E mo n m (fun x y => if x < n ∧ y = c then h x y + v else h x y) sn sm sh e.off w') (fun w' => MM E mo n m h sn sm sh e w'))) := by
  refine call_of (av := [(1, mo), (0, c), (0, v)]) (by decide +kernel) rfl (Nat.le_of_ble_eq_true rfl) ?_
  intro X hX hF hname
  show GG X 0 0 w 0 [(1, mo), (0, c), (0, v), (9, 0), (9, 0)] []
  have hb := hM.1.b
  have hsb := hM.2.1.2
  skip
  have c68 : ∀ (is j : Int), (is = 0 ∨ is = 1) → (0 ≤ c ∧ c ≤ m - 1 → (-99 ≤ v ∧ v ≤ 99) → (is = 1 ↔ (al (fun i => tk h v i c) n.toNat = 1))) → GG X 0 0 w 53 [(1, mo), (0, c), (0, v), (0, is), (0, j)] [] := by
    intro is j h01 his
    refine g_aload_n (pc' := 54) hX dX4_addToColumn_53 rfl rfl ?_
    refine g_aload_n (pc' := 55) hX dX4_addToColumn_54 rfl rfl ?_
    refine g_iload_n (pc' := 56) hX dX4_addToColumn_55 rfl rfl ?_
    refine gV1E0 (pc' := 59) hX dX4_addToColumn_56 ml_X4_125 gc_X4 hM.1.h0 hM.1.hk (c_m_isReal hM.1 (by omega)) (Nat.le_of_ble_eq_true rfl) (by decide) rfl ?_
    refine g_if_ne (pc' := 62) (tgt := 66) hX dX4_addToColumn_59 (by decide) rfl (by omega) (fun h59 => ?_) (fun h59 => ?_)
    · skip
      refine g_iload_n (pc' := 67) hX dX4_addToColumn_66 rfl rfl ?_
      refine g_i2l (pc' := 68) hX dX4_addToColumn_67 (by omega) rfl ?_
      refine g_ldc2 (pc' := 71) (n := -99) hX dX4_addToColumn_68 q1650 rfl rfl ?_
      refine g_ldc2 (pc' := 74) (n := 99) hX dX4_addToColumn_71 q1619 rfl rfl ?_
      refine gS3E0 (pc' := 77) hX dX4_addToColumn_74 ml_X4_63 (c_m_isIn (by omega) (by omega) (by omega)) (Nat.le_of_ble_eq_true rfl) (by decide) rfl ?_
      refine g_if_ne (pc' := 80) (tgt := 84) hX dX4_addToColumn_77 (by decide) rfl (by omega) (fun h77 => ?_) (fun h77 => ?_)
      · skip
        refine g_iload_n (pc' := 85) hX dX4_addToColumn_84 rfl rfl ?_
        refine g_if_ne (pc' := 88) (tgt := 92) hX dX4_addToColumn_85 (by decide) rfl (by omega) (fun h85 => ?_) (fun h85 => ?_)
        · skip
          refine g_iconst (pc' := 93) hX dX4_addToColumn_92 rfl ?_
          refine gV1I0 (pc' := 96) hX dX4_addToColumn_93 ml_X4_118 gc_X4 hM.1.h0 hM.1.hk (c_m_wrong hM (by omega)) (Nat.le_of_ble_eq_true rfl) (by decide) rfl (fun r93 w93 q93 => ?_)
          obtain ⟨hM, hWA, hR, h4, hr93⟩ := q93
          have hI := hM.1
          have hW : Fr (zB mo) w93 w93 := Fr.rf
          have e0 : r93 = 0 := by omega
          subst e0
          clear hr93
          skip
          refine g_if_eq (pc' := 99) (tgt := 101) hX dX4_addToColumn_96 (by decide) rfl (by omega) (fun h96 => ?_) (fun h96 => absurd h96 (by omega))
          have hal : al (fun i => tk h v i c) n.toNat = 1 := by omega
          refine g_iconst (pc' := 102) hX dX4_addToColumn_101 rfl ?_
          refine g_istore_4 (pc' := 104) hX dX4_addToColumn_102 (by decide) rfl rfl ?_
          have loop : ∀ (f : Nat) (j : Int) (h1 : Int → Int → Int) (w1 : Wd), 0 ≤ j → j ≤ n → MM E mo n m h1 sn sm sh e w1 → Fr (zB mo) w93 w1 → (∀ x y : Int, 0 ≤ x → x < 7 → 0 ≤ y → y < 7 → h1 x y = if x < j ∧ y = c then h x y + v else h x y) → n < j + f → GG X 0 0 w1 104 [(1, mo), (0, c), (0, v), (0, is), (0, j)] [] := by
            intro f
            induction f with
            | zero => intro j h1 w1 h0 h7 hM hW hA hf; exact absurd hf (by omega)
            | succ f ih =>
              intro j h1 w1 h0 h7 hM hW hA hf
              have hj1 : j < n → 0 ≤ h j c ∧ 0 ≤ h j c + v ∧ h j c + v ≤ 99 := fun hj => tk_1 (al_all hal j h0 (by omega))
              refine g_iload (pc' := 106) hX dX4_addToColumn_104 rfl rfl ?_
              refine g_aload_n (pc' := 107) hX dX4_addToColumn_106 rfl rfl ?_
              refine gf_X4_7 (pc' := 110) hX dX4_addToColumn_107 hM.1.h0 hM.1.hk rfl ?_
              rw [hM.1.vn]
              refine g_icmp_ge (pc' := 113) (tgt := 135) hX dX4_addToColumn_110 (by decide) rfl (by omega) (by omega) (fun h110 => ?_) (fun h110 => ?_)
              · skip
                refine g_aload_n (pc' := 136) hX dX4_addToColumn_135 rfl rfl ?_
                refine g_iconst (pc' := 137) hX dX4_addToColumn_136 rfl ?_
                refine pf_X4_48 (pc' := 140) hX dX4_addToColumn_137 hM.1.hb hM.1.hk rfl ?_
                refine hM.stO hW (by unfold zB; omega) (fun hM hW => ?_)
                have hM := hM.cg (h' := fun x y => if x < n ∧ y = c then h x y + v else h x y) (fun x y x0 x1 y0 y1 => by rw [hA x y x0 x1 y0 y1]; (repeat' split) <;> first | rfl | omega)
                refine g_aload_n (pc' := 141) hX dX4_addToColumn_140 rfl rfl ?_
                refine g_iload_n (pc' := 142) hX dX4_addToColumn_141 rfl rfl ?_
                refine gV1E0 (pc' := 145) hX dX4_addToColumn_142 ml_X4_147 gc_X4 hM.1.h0 hM.1.hk (c_m_columnSum hM (by omega)) (Nat.le_of_ble_eq_true rfl) (by decide) rfl ?_
                exact g_retI hX hF dX4_addToColumn_145 (mP.okB hWA hW h4 (by omega) (hM) (rfl))
              · skip
                refine g_aload_n (pc' := 114) hX dX4_addToColumn_113 rfl rfl ?_
                refine gf_X4_22 (pc' := 117) hX dX4_addToColumn_114 hM.1.h0 hM.1.hk rfl ?_
                rw [hM.1.f 5 (by decide) (show moF 5 = 1 by decide)]
                refine g_bipush (pc' := 119) hX dX4_addToColumn_117 rfl rfl ?_
                refine g_iload (pc' := 121) hX dX4_addToColumn_119 rfl rfl ?_
                refine g_imul (pc' := 122) hX dX4_addToColumn_121 rfl ?_
                refine g_iload_n (pc' := 123) hX dX4_addToColumn_122 rfl rfl ?_
                refine g_iadd (pc' := 124) hX dX4_addToColumn_123 rfl ?_
                refine g_dup2 (pc' := 125) hX dX4_addToColumn_124 (vI_cat _) (vR_cat _) rfl ?_
                refine g_ialdL (pc' := 126) hX dX4_addToColumn_125 (by have := hM.1.h0; omega) (hM.1.k 1 (by decide) (show moK 1 = 50 by decide)) (hM.1.l 1 (by decide) (show moN 1 = 49 by decide)) (by omega) rfl ?_
                rw [show rdw w1 (mo + 1) (7 * j + c) = h j c from by rw [hM.2.2.1.v j c (by omega) (by omega), hA j c (by omega) (by omega) (by omega) (by omega), if_neg (by omega)]; unfold hno; rw [if_neg (by omega)]]
                refine g_iload_n (pc' := 127) hX dX4_addToColumn_126 rfl rfl ?_
                refine g_iadd (pc' := 128) hX dX4_addToColumn_127 rfl ?_
                refine g_iastL (pc' := 129) hX dX4_addToColumn_128 (by have := hM.1.hb; omega) (hM.1.k 1 (by decide) (show moK 1 = 50 by decide)) (hM.1.l 1 (by decide) (show moN 1 = 49 by decide)) (by omega) rfl ?_
                refine hM.stN hW (by omega) (by unfold zB; omega) (fun hM hW => ?_)
                refine g_iinc_4 (pc' := 132) hX dX4_addToColumn_129 (by decide) rfl rfl ?_
                refine g_goto (tgt := 104) hX dX4_addToColumn_132 (by decide) ?_
                exact ih (j + 1) _ _ (by omega) (by omega) hM hW (fun x y x0 x1 y0 y1 => by
                  have hj := hA x y x0 x1 y0 y1
                  by_cases he : 7 * x + y = 7 * j + c
                  · simp only [if_pos he]
                    have e1 : x = j := by omega
                    have e2 : y = c := by omega
                    subst e1; subst e2
                    rw [if_neg (by omega)] at hj
                    rw [hj, if_pos (by omega)]
                    unfold hhd hfg; omega
                  · simp only [if_neg he]
                    rw [hj]
                    (repeat' split) <;> first | rfl | omega) (by omega)
          exact loop 8 0 h w93 (by omega) (by omega) hM hW (fun x y x0 x1 y0 y1 => by rw [if_neg (by omega)]) (by omega)
        · skip
          refine g_iconst (pc' := 89) hX dX4_addToColumn_88 rfl ?_
          refine g_goto (tgt := 93) hX dX4_addToColumn_89 (by decide) ?_
          refine gV1I0 (pc' := 96) hX dX4_addToColumn_93 ml_X4_118 gc_X4 hM.1.h0 hM.1.hk (c_m_wrong hM (by omega)) (Nat.le_of_ble_eq_true rfl) (by decide) rfl (fun r93 w93 q93 => ?_)
          obtain ⟨hM, hWA, hR, h4, hr93⟩ := q93
          have hI := hM.1
          have hW : Fr (zB mo) w93 w93 := Fr.rf
          have e0 : r93 = 1 := by omega
          subst e0
          clear hr93
          skip
          refine g_if_eq (pc' := 99) (tgt := 101) hX dX4_addToColumn_96 (by decide) rfl (by omega) (fun h96 => absurd h96 (by omega)) (fun h96 => ?_)
          refine g_iconst (pc' := 100) hX dX4_addToColumn_99 rfl ?_
          exact g_retI hX hF dX4_addToColumn_100 (mP.bad hWA h4 (by omega) (by omega) hM)
      · skip
        refine g_iconst (pc' := 81) hX dX4_addToColumn_80 rfl ?_
        refine g_goto (tgt := 93) hX dX4_addToColumn_81 (by decide) ?_
        refine gV1I0 (pc' := 96) hX dX4_addToColumn_93 ml_X4_118 gc_X4 hM.1.h0 hM.1.hk (c_m_wrong hM (by omega)) (Nat.le_of_ble_eq_true rfl) (by decide) rfl (fun r93 w93 q93 => ?_)
        obtain ⟨hM, hWA, hR, h4, hr93⟩ := q93
        have hI := hM.1
        have hW : Fr (zB mo) w93 w93 := Fr.rf
        have e0 : r93 = 1 := by omega
        subst e0
        clear hr93
        skip
        refine g_if_eq (pc' := 99) (tgt := 101) hX dX4_addToColumn_96 (by decide) rfl (by omega) (fun h96 => absurd h96 (by omega)) (fun h96 => ?_)
        refine g_iconst (pc' := 100) hX dX4_addToColumn_99 rfl ?_
        exact g_retI hX hF dX4_addToColumn_100 (mP.bad hWA h4 (by omega) (by omega) hM)
    · skip
      refine g_iconst (pc' := 63) hX dX4_addToColumn_62 rfl ?_
      refine g_goto (tgt := 93) hX dX4_addToColumn_63 (by decide) ?_
      refine gV1I0 (pc' := 96) hX dX4_addToColumn_93 ml_X4_118 gc_X4 hM.1.h0 hM.1.hk (c_m_wrong hM (by omega)) (Nat.le_of_ble_eq_true rfl) (by decide) rfl (fun r93 w93 q93 => ?_)
      obtain ⟨hM, hWA, hR, h4, hr93⟩ := q93
      have hI := hM.1
      have hW : Fr (zB mo) w93 w93 := Fr.rf
      have e0 : r93 = 1 := by omega
      subst e0
      clear hr93
      skip
      refine g_if_eq (pc' := 99) (tgt := 101) hX dX4_addToColumn_96 (by decide) rfl (by omega) (fun h96 => absurd h96 (by omega)) (fun h96 => ?_)
      refine g_iconst (pc' := 100) hX dX4_addToColumn_99 rfl ?_
      exact g_retI hX hF dX4_addToColumn_100 (mP.bad hWA h4 (by omega) (by omega) hM)
  refine g_iconst (pc' := 1) hX dX4_addToColumn_0 rfl ?_
  refine g_istore_n_3 (pc' := 2) hX dX4_addToColumn_1 (by decide) rfl rfl ?_
  refine g_iconst (pc' := 3) hX dX4_addToColumn_2 rfl ?_
  refine g_istore_4 (pc' := 5) hX dX4_addToColumn_3 (by decide) rfl rfl ?_
  have loop : ∀ (f : Nat) (is j : Int), 0 ≤ j → j ≤ n → (is = 0 ∨ is = 1) → (is = 1 ↔ (al (fun i => tk h v i c) j.toNat = 1)) → n < j + f → GG X 0 0 w 5 [(1, mo), (0, c), (0, v), (0, is), (0, j)] [] := by
    intro f
    induction f with
    | zero => intro is j h0 h7 h01 hA hf; exact absurd hf (by omega)
    | succ f ih =>
      intro is j h0 h7 h01 hA hf
      refine g_aload_n (pc' := 6) hX dX4_addToColumn_5 rfl rfl ?_
      refine g_iload_n (pc' := 7) hX dX4_addToColumn_6 rfl rfl ?_
      refine gV1E0 (pc' := 10) hX dX4_addToColumn_7 ml_X4_125 gc_X4 hM.1.h0 hM.1.hk (c_m_isReal hM.1 (by omega)) (Nat.le_of_ble_eq_true rfl) (by decide) rfl ?_
      refine g_if_eq (pc' := 13) (tgt := 53) hX dX4_addToColumn_10 (by decide) rfl (by omega) (fun h10 => ?_) (fun h10 => ?_)
      · skip
        exact c68 _ _ h01 (fun z1 z2 => by
          first
            | (exfalso; omega)
            | (rw [show j = n by omega] at hA; exact hA))
      · skip
        refine g_iload_n (pc' := 14) hX dX4_addToColumn_13 rfl rfl ?_
        refine g_i2l (pc' := 15) hX dX4_addToColumn_14 (by omega) rfl ?_
        refine g_ldc2 (pc' := 18) (n := -99) hX dX4_addToColumn_15 q1650 rfl rfl ?_
        refine g_ldc2 (pc' := 21) (n := 99) hX dX4_addToColumn_18 q1619 rfl rfl ?_
        refine gS3E0 (pc' := 24) hX dX4_addToColumn_21 ml_X4_63 (c_m_isIn (by omega) (by omega) (by omega)) (Nat.le_of_ble_eq_true rfl) (by decide) rfl ?_
        refine g_if_eq (pc' := 27) (tgt := 53) hX dX4_addToColumn_24 (by decide) rfl (by omega) (fun h24 => ?_) (fun h24 => ?_)
        · skip
          exact c68 _ _ h01 (fun z1 z2 => by
            first
              | (exfalso; omega)
              | (rw [show j = n by omega] at hA; exact hA))
        · skip
          refine g_iload (pc' := 29) hX dX4_addToColumn_27 rfl rfl ?_
          refine g_aload_n (pc' := 30) hX dX4_addToColumn_29 rfl rfl ?_
          refine gf_X4_7 (pc' := 33) hX dX4_addToColumn_30 hM.1.h0 hM.1.hk rfl ?_
          rw [hM.1.vn]
          refine g_icmp_ge (pc' := 36) (tgt := 53) hX dX4_addToColumn_33 (by decide) rfl (by omega) (by omega) (fun h33 => ?_) (fun h33 => ?_)
          · skip
            exact c68 _ _ h01 (fun z1 z2 => by
              first
                | (exfalso; omega)
                | (rw [show j = n by omega] at hA; exact hA))
          · skip
            refine g_iload_n (pc' := 37) hX dX4_addToColumn_36 rfl rfl ?_
            refine g_aload_n (pc' := 38) hX dX4_addToColumn_37 rfl rfl ?_
            refine g_iload (pc' := 40) hX dX4_addToColumn_38 rfl rfl ?_
            refine g_iload_n (pc' := 41) hX dX4_addToColumn_40 rfl rfl ?_
            refine g_iload_n (pc' := 42) hX dX4_addToColumn_41 rfl rfl ?_
            refine gV3E0 (pc' := 45) hX dX4_addToColumn_42 ml_X4_140 gc_X4 hM.1.h0 hM.1.hk (c_m_takes hM (by omega) (by omega) (by omega)) (Nat.le_of_ble_eq_true rfl) (by decide) rfl ?_
            refine g_iand (pc' := 46) (if is = 1 ∧ tk h v j c = 1 then 1 else 0) hX dX4_addToColumn_45 (and01 h01 tk_01) rfl ?_
            refine g_istore_n_3 (pc' := 47) hX dX4_addToColumn_46 (by decide) rfl rfl ?_
            refine g_iinc_4 (pc' := 50) hX dX4_addToColumn_47 (by decide) rfl rfl ?_
            refine g_goto (tgt := 5) hX dX4_addToColumn_50 (by decide) ?_
            exact ih _ (j + 1) (by omega) (by omega) (by split <;> simp) (by rw [al_s h0]; have ht := tk_01 (h := h) (v := v) (r := j) (c := c); omega) (by omega)
  exact loop 8 _ 0 (by omega) (by omega) (by simp) (by simp [al]) (by omega)

theorem c_m_distance (hM : MM E mo n m h sn sm sh e w) : Call E mX4_distance 1 0 0 [vR mo] w (qE (dS n m h sn sm sh) w) := by
  refine call_of (av := [(1, mo)]) (by decide +kernel) rfl (Nat.le_of_ble_eq_true rfl) ?_
  intro X hX hF hname
  show GG X 0 0 w 0 [(1, mo), (9, 0), (9, 0), (9, 0), (9, 0)] []
  have hb := hM.1.b
  have hsb := hM.2.1.2
  have hF0 := hF
  unfold dS at hF0
  refine g_aload_n (pc' := 1) hX dX4_distance_0 rfl rfl ?_
  refine gf_X4_7 (pc' := 4) hX dX4_distance_1 hM.1.h0 hM.1.hk rfl ?_
  rw [hM.1.vn]
  refine g_aload_n (pc' := 5) hX dX4_distance_4 rfl rfl ?_
  refine gf_X4_16 (pc' := 8) hX dX4_distance_5 hM.1.h0 hM.1.hk rfl ?_
  rw [hM.2.1.1.1]
  refine g_icmp_ne (pc' := 11) (tgt := 22) hX dX4_distance_8 (by decide) rfl (by omega) (by omega) (fun h8 => ?_) (fun h8 => ?_)
  · skip
    rw [if_neg (by omega)] at hF0
    refine g_iconst (pc' := 23) hX dX4_distance_22 rfl ?_
    exact g_retE hX hF0 dX4_distance_23 (by first | rfl | (rw [show i = n by omega])) rfl
  · skip
    refine g_aload_n (pc' := 12) hX dX4_distance_11 rfl rfl ?_
    refine gf_X4_13 (pc' := 15) hX dX4_distance_12 hM.1.h0 hM.1.hk rfl ?_
    rw [hM.1.vm]
    refine g_aload_n (pc' := 16) hX dX4_distance_15 rfl rfl ?_
    refine gf_X4_19 (pc' := 19) hX dX4_distance_16 hM.1.h0 hM.1.hk rfl ?_
    rw [hM.2.1.1.2]
    refine g_icmp_eq (pc' := 22) (tgt := 24) hX dX4_distance_19 (by decide) rfl (by omega) (by omega) (fun h19 => ?_) (fun h19 => ?_)
    · skip
      rw [if_pos (by omega)] at hF0
      refine g_iconst (pc' := 25) hX dX4_distance_24 rfl ?_
      refine g_istore_n_1 (pc' := 26) hX dX4_distance_25 (by decide) rfl rfl ?_
      refine g_iconst (pc' := 27) hX dX4_distance_26 rfl ?_
      refine g_istore_n_2 (pc' := 28) hX dX4_distance_27 (by decide) rfl rfl ?_
      have loop : ∀ (f : Nat) (i : Int) (x3 x4 : Nat × Int), 0 ≤ i → i ≤ n → (x3 = (9, 0) ∨ x3.1 = 0) → (x4 = (9, 0) ∨ x4.1 = 0) → n < i + f → GG X 0 0 w 28 [(1, mo), (0, sm' i.toNat (fun i => sm' n.toNat (fun j => ab (tC m h i j - tC sm sh i j)))), (0, i), x3, x4] [] := by
        intro f
        induction f with
        | zero => intro i x3 x4 h0 h1 h3 h4 hf; exact absurd hf (by omega)
        | succ f ih =>
          intro i x3 x4 h0 h1 h3 h4 hf
          refine g_iload_n (pc' := 29) hX dX4_distance_28 rfl rfl ?_
          refine g_aload_n (pc' := 30) hX dX4_distance_29 rfl rfl ?_
          refine gf_X4_7 (pc' := 33) hX dX4_distance_30 hM.1.h0 hM.1.hk rfl ?_
          rw [hM.1.vn]
          refine g_icmp_ge (pc' := 36) (tgt := 89) hX dX4_distance_33 (by decide) rfl (by omega) (by omega) (fun h33 => ?_) (fun h33 => ?_)
          · skip
            refine g_iload_n (pc' := 90) hX dX4_distance_89 rfl rfl ?_
            exact g_retE hX hF0 dX4_distance_90 (by first | rfl | (rw [show i = n by omega])) rfl
          · skip
            refine g_iconst (pc' := 37) hX dX4_distance_36 rfl ?_
            refine g_istore_n_3 (pc' := 38) hX dX4_distance_37 (by decide) rfl rfl ?_
            have loop2 : ∀ (g : Nat) (j : Int) (x4 : Nat × Int), 0 ≤ j → j ≤ n → (x4 = (9, 0) ∨ x4.1 = 0) → n < j + g → GG X 0 0 w 38 [(1, mo), (0, sm' i.toNat (fun i => sm' n.toNat (fun j => ab (tC m h i j - tC sm sh i j))) + sm' j.toNat (fun j => ab (tC m h i j - tC sm sh i j))), (0, i), (0, j), x4] [] := by
              intro g
              induction g with
              | zero => intro j x4 _ _ _ hg; exact absurd hg (by omega)
              | succ g ih2 =>
                intro j x4 j0 j1 h4 hg
                have ht1 := fun hj : j < n => hM.cB i j (by omega) (by omega) (by omega) hj
                have ht2 := fun hj : j < n => tC_b (m := sm) (hM.shb i j (by omega) (by omega))
                refine g_iload_n (pc' := 39) hX dX4_distance_38 rfl rfl ?_
                refine g_aload_n (pc' := 40) hX dX4_distance_39 rfl rfl ?_
                refine gf_X4_7 (pc' := 43) hX dX4_distance_40 hM.1.h0 hM.1.hk rfl ?_
                rw [hM.1.vn]
                refine g_icmp_ge (pc' := 46) (tgt := 83) hX dX4_distance_43 (by decide) rfl (by omega) (by omega) (fun h43 => ?_) (fun h43 => ?_)
                · skip
                  refine g_iinc_2 (pc' := 86) hX dX4_distance_83 (by decide) rfl rfl ?_
                  refine g_goto (tgt := 28) hX dX4_distance_86 (by decide) ?_
                  have ex := ih (i + 1) (0, j) x4 (by omega) (by omega) (Or.inr rfl) h4 (by omega)
                  rw [sm_s h0] at ex
                  rw [show j = n by omega]
                  rw [show j = n by omega] at ex
                  exact ex
                · skip
                  refine g_aload_n (pc' := 47) hX dX4_distance_46 rfl rfl ?_
                  refine g_iload_n (pc' := 48) hX dX4_distance_47 rfl rfl ?_
                  refine g_iload_n (pc' := 49) hX dX4_distance_48 rfl rfl ?_
                  refine gV2E0 (pc' := 52) hX dX4_distance_49 ml_X4_75 gc_X4 hM.1.h0 hM.1.hk (c_m_costT hM (by omega) (by omega)) (Nat.le_of_ble_eq_true rfl) (by decide) rfl ?_
                  refine g_aload_n (pc' := 53) hX dX4_distance_52 rfl rfl ?_
                  refine g_iload_n (pc' := 54) hX dX4_distance_53 rfl rfl ?_
                  refine g_iload_n (pc' := 55) hX dX4_distance_54 rfl rfl ?_
                  refine gV2E0 (pc' := 58) hX dX4_distance_55 ml_X4_156 gc_X4 hM.1.h0 hM.1.hk (c_m_savedCost hM (by omega) (by omega)) (Nat.le_of_ble_eq_true rfl) (by decide) rfl ?_
                  refine g_isub (pc' := 59) hX dX4_distance_58 rfl ?_
                  refine g_istore_4 (pc' := 61) hX dX4_distance_59 (by decide) rfl rfl ?_
                  refine g_iload_n (pc' := 62) hX dX4_distance_61 rfl rfl ?_
                  refine g_iload (pc' := 64) hX dX4_distance_62 rfl rfl ?_
                  have ht1 := ht1 (by omega)
                  have ht2 := ht2 (by omega)
                  refine g_if_ge (pc' := 67) (tgt := 73) hX dX4_distance_64 (by decide) rfl (by omega) (fun h64 => ?_) (fun h64 => ?_)
                  · skip
                    refine g_iload (pc' := 75) hX dX4_distance_73 rfl rfl ?_
                    refine g_iadd (pc' := 76) hX dX4_distance_75 rfl ?_
                    refine g_istore_n_1 (pc' := 77) hX dX4_distance_76 (by decide) rfl rfl ?_
                    refine g_iinc_3 (pc' := 80) hX dX4_distance_77 (by decide) rfl rfl ?_
                    refine g_goto (tgt := 38) hX dX4_distance_80 (by decide) ?_
                    have ex := ih2 (j + 1) (0, tC m h i j - tC sm sh i j) (by omega) (by omega) (Or.inr rfl) (by omega)
                    rw [sm_s j0, ← Int.add_assoc] at ex
                    first
                      | (rw [show ab (tC m h i j - tC sm sh i j) = tC m h i j - tC sm sh i j by unfold ab; omega] at ex; exact ex)
                      | (rw [show ab (tC m h i j - tC sm sh i j) = -(tC m h i j - tC sm sh i j) by unfold ab; omega] at ex; exact ex)
                  · skip
                    refine g_iload (pc' := 69) hX dX4_distance_67 rfl rfl ?_
                    refine g_ineg (pc' := 70) hX dX4_distance_69 rfl ?_
                    refine g_goto (tgt := 75) hX dX4_distance_70 (by decide) ?_
                    refine g_iadd (pc' := 76) hX dX4_distance_75 rfl ?_
                    refine g_istore_n_1 (pc' := 77) hX dX4_distance_76 (by decide) rfl rfl ?_
                    refine g_iinc_3 (pc' := 80) hX dX4_distance_77 (by decide) rfl rfl ?_
                    refine g_goto (tgt := 38) hX dX4_distance_80 (by decide) ?_
                    have ex := ih2 (j + 1) (0, tC m h i j - tC sm sh i j) (by omega) (by omega) (Or.inr rfl) (by omega)
                    rw [sm_s j0, ← Int.add_assoc] at ex
                    first
                      | (rw [show ab (tC m h i j - tC sm sh i j) = tC m h i j - tC sm sh i j by unfold ab; omega] at ex; exact ex)
                      | (rw [show ab (tC m h i j - tC sm sh i j) = -(tC m h i j - tC sm sh i j) by unfold ab; omega] at ex; exact ex)
            have ex := loop2 8 0 x4 (by omega) (by omega) h4 (by omega)
            rw [show sm' (0 : Int).toNat (fun j => ab (tC m h i j - tC sm sh i j)) = 0 from rfl, Int.add_zero] at ex
            exact ex
      exact loop 8 0 (9, 0) (9, 0) (by omega) (by omega) (Or.inl rfl) (Or.inl rfl) (by omega)
    · skip
      rw [if_neg (by omega)] at hF0
      refine g_iconst (pc' := 23) hX dX4_distance_22 rfl ?_
      exact g_retE hX hF0 dX4_distance_23 (by first | rfl | (rw [show i = n by omega])) rfl

end M8
