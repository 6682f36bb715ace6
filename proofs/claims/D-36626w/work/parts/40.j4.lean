/-! THE LIBRARY: priority queues (by gen/spec_j4.py) -/
set_option maxRecDepth 100000
set_option maxHeartbeats 4000000
/-- the comparator's contract at every world that differs from w in the array qa alone, between the members of T; its sign is that of the ranks -/
def CMo (E : Ev) (w : Wd) (qa co : Int) (M : Mth) (d : Nat) (rk : Int → Int) (T : Int → Prop) : Prop :=
  ∀ w' : Wd, Fr (fun a _ => a = qa) w w' → ∀ x y : Int, T x → T y → ∃ e : Int, (-1 ≤ e ∧ e ≤ 1) ∧ (e < 0 ↔ rk x < rk y) ∧ (0 < e ↔ rk y < rk x) ∧ Call E M d 0 0 [vR co, vR x, vR y] w' (qE e w')
section J4S
variable {E : Ev} {w : Wd} {a l n i it c v o qa co x k : Int}
theorem CMo.fr {w' : Wd} {M : Mth} {d : Nat} {rk : Int → Int} {T : Int → Prop} (H : CMo E w qa co M d rk T) (hF : Fr (fun a _ => a = qa) w w') : CMo E w' qa co M d rk T := fun w2 h2 x y hx hy => H w2 (hF.tr h2) x y hx hy
theorem UPo.cg {rk A A' : Int → Int} {n k x : Int} (H : UPo rk A n k x) (h : ∀ i, 0 ≤ i → i < n → A' i = A i) (hk : k < n) : UPo rk A' n k x := by
  refine ⟨fun i i1 i2 i3 i4 => ?_, fun i i1 i2 i3 => ?_⟩
  · rw [h i (by omega) i2, h _ (by omega) (by omega)]; exact H.1 i i1 i2 i3 i4
  · have h1 := H.2 i i1 i2 i3
    rw [h i (by omega) i2]
    exact ⟨h1.1, fun h2 => by rw [h _ (by omega) (by omega)]; exact h1.2 h2⟩
theorem c_j_siftUp1 {ci : Nat} {C : String} {T : u_T} {N : Nat} {M : Mth} {dc : Nat} {rk : Int → Int} {S : Int → Prop} (hl : LinkF RJ9 149 C yCmp M 2) (hc : GC[ci]? = some (C, T, N)) (hco : 0 ≤ co) (hkc : kdw w co = ci + 1) (hqa : (eB E : Int) ≤ qa) (hkq : 55 ≤ kdw w qa) (hlq : n ≤ lnw w qa ∧ lnw w qa < 4096) (hn : 1 ≤ n) (hk : 0 ≤ k ∧ k < n) (hM : CMo E w qa co M dc rk S) (hP : PMo (sto (fun i => rdw w qa i) k x) n S) (hU : UPo rk (fun i => rdw w qa i) n k x) (hok : ∀ r, S r → okr w r) : Call E mJ9_siftUpUsingComparator (dc + 1) 0 0 [vI k, vR x, vR qa, vR co] w (qU (fun w' => Fr (fun a i => a = qa ∧ 0 ≤ i ∧ i < n) w w' ∧ HPo rk (fun i => rdw w' qa i) n ∧ PMo (fun i => rdw w' qa i) n S)) := by
  refine call_of (av := [(0, k), (1, x), (1, qa), (1, co)]) (by decide +kernel) rfl (Nat.le_of_ble_eq_true rfl) ?_
  intro X hX hF hname
  show GG X 0 0 w 0 [(0, k), (1, x), (1, qa), (1, co), (9, 0), (9, 0)] []
  have hW : Fr (fun a i => a = qa ∧ 0 ≤ i ∧ i < n) w w := Fr.rf
  have loop : ∀ (f : Nat) (k : Int) (u : Wd) (x4 x5 : Nat × Int), 0 ≤ k → k < n → Fr (fun a i => a = qa ∧ 0 ≤ i ∧ i < n) w u → PMo (sto (fun i => rdw u qa i) k x) n S → UPo rk (fun i => rdw u qa i) n k x → k < f → GG X 0 0 u 0 [(0, k), (1, x), (1, qa), (1, co), x4, x5] [] := by
    intro f
    induction f with
    | zero => intro k u x4 x5 h0 hkn hW hP hU hf; exact absurd hf (by omega)
    | succ f ih =>
      intro k u x4 x5 h0 hkn hW hP hU hf
      have hkq2 := hW.kd qa
      have hlq2 := hW.ln qa
      have hkc2 := hW.kd co
      have hSx : S x := (hP.2 x).mpr ⟨k, h0, hkn, by unfold sto; rw [if_pos rfl]⟩
      have hokx := hok x hSx
      have hokx2 : okr u x := by unfold okr; rw [hW.kd x]; exact hokx
      refine g_iload_n (pc' := 1) hX dJ9_siftUpUsingComparator_0 rfl rfl ?_
      refine g_if_le (pc' := 4) (tgt := 43) hX dJ9_siftUpUsingComparator_1 (by decide) rfl (by omega) (fun h1 => ?_) (fun h1 => ?_)
      · skip
        refine g_aload_n (pc' := 44) hX dJ9_siftUpUsingComparator_43 rfl rfl ?_
        refine g_iload_n (pc' := 45) hX dJ9_siftUpUsingComparator_44 rfl rfl ?_
        refine g_aload_n (pc' := 46) hX dJ9_siftUpUsingComparator_45 rfl rfl ?_
        refine g_aastL (n := lnw w qa) (pc' := 47) hX dJ9_siftUpUsingComparator_46 hqa (by omega) (by omega) (by omega) hokx2 rfl ?_
        have hg : (fun i => rdw (upw u qa k x) qa i) = sto (fun i => rdw u qa i) k x := by
          funext i
          unfold sto
          by_cases hi : i = k
          · rw [rd_up_eq ⟨rfl, hi⟩, if_pos hi]
          · rw [rd_up_ne (fun z => hi z.2), if_neg hi]
        skip
        exact g_retU hX hF dJ9_siftUpUsingComparator_47 ⟨hW.up ⟨rfl, by omega, by omega⟩, by rw [hg]; exact hU.stop ⟨h0, hkn⟩ (by first | exact Or.inl (by omega) | exact Or.inr (Int.not_lt.mp (fun z => by have := he2.mpr z; omega))), by rw [hg]; exact hP⟩
      · skip
        have hSp : S (rdw u qa ((k - 1) / 2)) := (hP.2 _).mpr ⟨(k - 1) / 2, by omega, by omega, by unfold sto; rw [if_neg (by omega)]⟩
        obtain ⟨e, he1, he2, he3, hcm⟩ := hM u (hW.wk (fun _ _ z => z.1)) x (rdw u qa ((k - 1) / 2)) hSx hSp
        have hokp : okr u (rdw u qa ((k - 1) / 2)) := by unfold okr; rw [hW.kd]; exact hok _ hSp
        refine g_iload_n (pc' := 5) hX dJ9_siftUpUsingComparator_4 rfl rfl ?_
        refine g_iconst (pc' := 6) hX dJ9_siftUpUsingComparator_5 rfl ?_
        refine g_isub (pc' := 7) hX dJ9_siftUpUsingComparator_6 rfl ?_
        refine g_iconst (pc' := 8) hX dJ9_siftUpUsingComparator_7 rfl ?_
        refine g_iushr (pc' := 9) ((k - 1) / 2) hX dJ9_siftUpUsingComparator_8 (b_uhalf' (by omega)) rfl ?_
        refine g_istore_4 (pc' := 11) hX dJ9_siftUpUsingComparator_9 (by decide) rfl rfl ?_
        refine g_aload_n (pc' := 12) hX dJ9_siftUpUsingComparator_11 rfl rfl ?_
        refine g_iload (pc' := 14) hX dJ9_siftUpUsingComparator_12 rfl rfl ?_
        refine g_aaldL (n := lnw w qa) (pc' := 15) hX dJ9_siftUpUsingComparator_14 (nn_b hqa) (by omega) (by omega) (by omega) rfl ?_
        refine g_astore_5 (pc' := 17) hX dJ9_siftUpUsingComparator_15 (by decide) rfl rfl ?_
        refine g_aload_n (pc' := 18) hX dJ9_siftUpUsingComparator_17 rfl rfl ?_
        refine g_aload_n (pc' := 19) hX dJ9_siftUpUsingComparator_18 rfl rfl ?_
        refine g_aload (pc' := 21) hX dJ9_siftUpUsingComparator_19 rfl rfl ?_
        refine gF2E0 (pc' := 26) hX dJ9_siftUpUsingComparator_21 hl hc hco (by omega) hcm (Nat.le_of_ble_eq_true rfl) (Nat.le_refl _) rfl ?_
        refine g_if_lt (pc' := 29) (tgt := 32) hX dJ9_siftUpUsingComparator_26 (by decide) rfl (by omega) (fun h26 => ?_) (fun h26 => ?_)
        · skip
          refine g_aload_n (pc' := 33) hX dJ9_siftUpUsingComparator_32 rfl rfl ?_
          refine g_iload_n (pc' := 34) hX dJ9_siftUpUsingComparator_33 rfl rfl ?_
          refine g_aload (pc' := 36) hX dJ9_siftUpUsingComparator_34 rfl rfl ?_
          refine g_aastL (n := lnw w qa) (pc' := 37) hX dJ9_siftUpUsingComparator_36 hqa (by omega) (by omega) (by omega) hokp rfl ?_
          have hs1 : rk x < rk (rdw u qa ((k - 1) / 2)) := he2.mp (by omega)
          have hg : (fun i => rdw (upw u qa k (rdw u qa ((k - 1) / 2))) qa i) = sto (fun i => rdw u qa i) k (rdw u qa ((k - 1) / 2)) := by
            funext i
            unfold sto
            by_cases hi : i = k
            · rw [rd_up_eq ⟨rfl, hi⟩, if_pos hi]
            · rw [rd_up_ne (fun z => hi z.2), if_neg hi]
          have hU2 := hU.step (by omega) hs1
          have hW2 := hW.up (a := qa) (i := k) (x := rdw u qa ((k - 1) / 2)) ⟨rfl, by omega, by omega⟩
          have hP2 : PMo (sto (sto (fun i => rdw u qa i) k (rdw u qa ((k - 1) / 2))) ((k - 1) / 2) x) n S := hP.sw (p := (k - 1) / 2) (k := k) (by omega) (by omega) (by unfold sto; rw [if_neg (by omega), if_pos rfl, if_neg (by omega)]) (by unfold sto; rw [if_pos rfl, if_pos rfl]) (fun i i1 i2 => by unfold sto; rw [if_neg i2, if_neg i1, if_neg i1])
          rw [← hg] at hU2 hP2
          skip
          refine g_iload (pc' := 39) hX dJ9_siftUpUsingComparator_37 rfl rfl ?_
          refine g_istore_n_0 (pc' := 40) hX dJ9_siftUpUsingComparator_39 (by decide) rfl rfl ?_
          refine g_goto (tgt := 0) hX dJ9_siftUpUsingComparator_40 (by decide) ?_
          exact ih ((k - 1) / 2) _ _ _ (by omega) (by omega) hW2 hP2 (hU2) (by omega)
        · skip
          refine g_goto (tgt := 43) hX dJ9_siftUpUsingComparator_29 (by decide) ?_
          refine g_aload_n (pc' := 44) hX dJ9_siftUpUsingComparator_43 rfl rfl ?_
          refine g_iload_n (pc' := 45) hX dJ9_siftUpUsingComparator_44 rfl rfl ?_
          refine g_aload_n (pc' := 46) hX dJ9_siftUpUsingComparator_45 rfl rfl ?_
          refine g_aastL (n := lnw w qa) (pc' := 47) hX dJ9_siftUpUsingComparator_46 hqa (by omega) (by omega) (by omega) hokx2 rfl ?_
          have hg : (fun i => rdw (upw u qa k x) qa i) = sto (fun i => rdw u qa i) k x := by
            funext i
            unfold sto
            by_cases hi : i = k
            · rw [rd_up_eq ⟨rfl, hi⟩, if_pos hi]
            · rw [rd_up_ne (fun z => hi z.2), if_neg hi]
          skip
          exact g_retU hX hF dJ9_siftUpUsingComparator_47 ⟨hW.up ⟨rfl, by omega, by omega⟩, by rw [hg]; exact hU.stop ⟨h0, hkn⟩ (by first | exact Or.inl (by omega) | exact Or.inr (Int.not_lt.mp (fun z => by have := he2.mpr z; omega))), by rw [hg]; exact hP⟩
  exact loop (k.toNat + 1) k w _ _ hk.1 hk.2 hW hP hU (by omega)

theorem c_j_siftDown1 {ci : Nat} {C : String} {T : u_T} {N : Nat} {M : Mth} {dc : Nat} {rk : Int → Int} {S : Int → Prop} (hl : LinkF RJ9 149 C yCmp M 2) (hc : GC[ci]? = some (C, T, N)) (hco : 0 ≤ co) (hkc : kdw w co = ci + 1) (hqa : (eB E : Int) ≤ qa) (hkq : 55 ≤ kdw w qa) (hlq : n ≤ lnw w qa ∧ lnw w qa < 4096) (hn : 1 ≤ n) (hM : CMo E w qa co M dc rk S) (hP : PMo (sto (fun i => rdw w qa i) 0 x) n S) (hD : DNo rk (fun i => rdw w qa i) n 0) (hok : ∀ r, S r → okr w r) : Call E mJ9_siftDownUsingComparator (dc + 1) 0 0 [vI 0, vR x, vR qa, vI n, vR co] w (qU (fun w' => Fr (fun a i => a = qa ∧ 0 ≤ i ∧ i < n) w w' ∧ HPo rk (fun i => rdw w' qa i) n ∧ PMo (fun i => rdw w' qa i) n S)) := by
  refine call_of (av := [(0, 0), (1, x), (1, qa), (0, n), (1, co)]) (by decide +kernel) rfl (Nat.le_of_ble_eq_true rfl) ?_
  intro X hX hF hname
  show GG X 0 0 w 0 [(0, 0), (1, x), (1, qa), (0, n), (1, co), (9, 0), (9, 0), (9, 0), (9, 0)] []
  have hW : Fr (fun a i => a = qa ∧ 0 ≤ i ∧ i < n) w w := Fr.rf
  refine g_iload_n (pc' := 1) hX dJ9_siftDownUsingComparator_0 rfl rfl ?_
  refine g_iconst (pc' := 2) hX dJ9_siftDownUsingComparator_1 rfl ?_
  refine g_iushr (pc' := 3) (n / 2) hX dJ9_siftDownUsingComparator_2 (b_uhalf' (by omega)) rfl ?_
  refine g_istore_5 (pc' := 5) hX dJ9_siftDownUsingComparator_3 (by decide) rfl rfl ?_
  have loop : ∀ (f : Nat) (k : Int) (u : Wd) (x6 x7 x8 : Nat × Int), 0 ≤ k → k < n → Fr (fun a i => a = qa ∧ 0 ≤ i ∧ i < n) w u → PMo (sto (fun i => rdw u qa i) k x) n S → DNo rk (fun i => rdw u qa i) n k → (1 ≤ k → rk (rdw u qa ((k - 1) / 2)) ≤ rk x) → n < k + f → GG X 0 0 u 5 [(0, k), (1, x), (1, qa), (0, n), (1, co), (0, n / 2), x6, x7, x8] [] := by
    intro f
    induction f with
    | zero => intro k u x6 x7 x8 h0 hkn hW hP hD hu hf; exact absurd hf (by omega)
    | succ f ih =>
      intro k u x6 x7 x8 h0 hkn hW hP hD hu hf
      have hkq2 := hW.kd qa
      have hlq2 := hW.ln qa
      have hkc2 := hW.kd co
      have hSx : S x := (hP.2 x).mpr ⟨k, h0, hkn, by unfold sto; rw [if_pos rfl]⟩
      have hokx := hok x hSx
      have hokx2 : okr u x := by unfold okr; rw [hW.kd x]; exact hokx
      have hmem : ∀ i : Int, 0 ≤ i → i < n → i ≠ k → S (rdw u qa i) := fun i i0 i1 i2 => (hP.2 _).mpr ⟨i, i0, i1, by unfold sto; rw [if_neg i2]⟩
      refine g_iload_n (pc' := 6) hX dJ9_siftDownUsingComparator_5 rfl rfl ?_
      refine g_iload (pc' := 8) hX dJ9_siftDownUsingComparator_6 rfl rfl ?_
      refine g_icmp_ge (pc' := 11) (tgt := 88) hX dJ9_siftDownUsingComparator_8 (by decide) rfl (by omega) (by omega) (fun h8 => ?_) (fun h8 => ?_)
      · skip
        refine g_aload_n (pc' := 89) hX dJ9_siftDownUsingComparator_88 rfl rfl ?_
        refine g_iload_n (pc' := 90) hX dJ9_siftDownUsingComparator_89 rfl rfl ?_
        refine g_aload_n (pc' := 91) hX dJ9_siftDownUsingComparator_90 rfl rfl ?_
        refine g_aastL (n := lnw w qa) (pc' := 92) hX dJ9_siftDownUsingComparator_91 hqa (by omega) (by omega) (by omega) hokx2 rfl ?_
        have hg : (fun i => rdw (upw u qa k (x)) qa i) = sto (fun i => rdw u qa i) k (x) := by
          funext i
          unfold sto
          by_cases hi : i = k
          · rw [rd_up_eq ⟨rfl, hi⟩, if_pos hi]
          · rw [rd_up_ne (fun z => hi z.2), if_neg hi]
        skip
        exact g_retU hX hF dJ9_siftDownUsingComparator_92 ⟨hW.up ⟨rfl, by omega, by omega⟩, by rw [hg]; exact hD.stop h0 (by first | exact (fun i i1 i2 i3 => absurd i2 (by omega)) | exact (fun i i1 i2 i3 => Int.le_trans (Int.not_lt.mp (fun z => by have := he3.mpr z; omega)) (hc4 i i1 i2 i3))) hu, by rw [hg]; exact hP⟩
      · skip
        refine g_iload_n (pc' := 12) hX dJ9_siftDownUsingComparator_11 rfl rfl ?_
        refine g_iconst (pc' := 13) hX dJ9_siftDownUsingComparator_12 rfl ?_
        refine g_ishl (pc' := 14) (2 * k) hX dJ9_siftDownUsingComparator_13 (b_dbl' (by omega)) rfl ?_
        refine g_iconst (pc' := 15) hX dJ9_siftDownUsingComparator_14 rfl ?_
        refine g_iadd (pc' := 16) hX dJ9_siftDownUsingComparator_15 rfl ?_
        refine g_istore_6 (pc' := 18) hX dJ9_siftDownUsingComparator_16 (by decide) rfl rfl ?_
        have c61 : ∀ (ch : Int) (y8 : Nat × Int), (ch - 1) / 2 = k → 1 ≤ ch → ch < n → (∀ i : Int, 1 ≤ i → i < n → (i - 1) / 2 = k → rk (rdw u qa ch) ≤ rk (rdw u qa i)) → GG X 0 0 u 61 [(0, k), (1, x), (1, qa), (0, n), (1, co), (0, n / 2), (0, ch), (1, rdw u qa ch), y8] [] := by
          intro ch y8 hc1 hc2 hc3 hc4
          obtain ⟨e, he1, he2, he3, hcm⟩ := hM u (hW.wk (fun _ _ z => z.1)) x (rdw u qa ch) hSx (hmem _ (by omega) (by omega) (by omega))
          have hokp : okr u (rdw u qa ch) := by unfold okr; rw [hW.kd]; exact hok _ (hmem _ (by omega) (by omega) (by omega))
          refine g_aload (pc' := 63) hX dJ9_siftDownUsingComparator_61 rfl rfl ?_
          refine g_aload_n (pc' := 64) hX dJ9_siftDownUsingComparator_63 rfl rfl ?_
          refine g_aload (pc' := 66) hX dJ9_siftDownUsingComparator_64 rfl rfl ?_
          refine gF2E0 (pc' := 71) hX dJ9_siftDownUsingComparator_66 hl hc hco (by omega) hcm (Nat.le_of_ble_eq_true rfl) (Nat.le_refl _) rfl ?_
          refine g_if_gt (pc' := 74) (tgt := 77) hX dJ9_siftDownUsingComparator_71 (by decide) rfl (by omega) (fun h71 => ?_) (fun h71 => ?_)
          · skip
            refine g_aload_n (pc' := 78) hX dJ9_siftDownUsingComparator_77 rfl rfl ?_
            refine g_iload_n (pc' := 79) hX dJ9_siftDownUsingComparator_78 rfl rfl ?_
            refine g_aload (pc' := 81) hX dJ9_siftDownUsingComparator_79 rfl rfl ?_
            refine g_aastL (n := lnw w qa) (pc' := 82) hX dJ9_siftDownUsingComparator_81 hqa (by omega) (by omega) (by omega) hokp rfl ?_
            have hg : (fun i => rdw (upw u qa k (rdw u qa ch)) qa i) = sto (fun i => rdw u qa i) k (rdw u qa ch) := by
              funext i
              unfold sto
              by_cases hi : i = k
              · rw [rd_up_eq ⟨rfl, hi⟩, if_pos hi]
              · rw [rd_up_ne (fun z => hi z.2), if_neg hi]
            have hs1 : rk (rdw u qa ch) < rk x := he3.mp (by omega)
            have hD2 := hD.step (x := x) h0 ⟨hc1, hc2, hc3⟩ hc4 hs1 (fun z => hD.2 ch hc2 hc3 hc1 z)
            have hW2 := hW.up (a := qa) (i := k) (x := rdw u qa ch) ⟨rfl, by omega, by omega⟩
            have hP2 : PMo (sto (sto (fun i => rdw u qa i) k (rdw u qa ch)) ch x) n S := hP.sw (p := ch) (k := k) (by omega) (by omega) (by unfold sto; rw [if_neg (by omega), if_pos rfl, if_neg (by omega)]) (by unfold sto; rw [if_pos rfl, if_pos rfl]) (fun i i1 i2 => by unfold sto; rw [if_neg i2, if_neg i1, if_neg i1])
            have hD3 := hD2.1
            have hD4 : rk (rdw (upw u qa k (rdw u qa ch)) qa ((ch - 1) / 2)) ≤ rk x := by have h1 : rdw (upw u qa k (rdw u qa ch)) qa ((ch - 1) / 2) = sto (fun i => rdw u qa i) k (rdw u qa ch) ((ch - 1) / 2) := congrFun hg ((ch - 1) / 2); rw [h1]; exact hD2.2
            rw [← hg] at hP2 hD3
            have hD2 := And.intro hD3 hD4
            skip
            refine g_iload (pc' := 84) hX dJ9_siftDownUsingComparator_82 rfl rfl ?_
            refine g_istore_n_0 (pc' := 85) hX dJ9_siftDownUsingComparator_84 (by decide) rfl rfl ?_
            refine g_goto (tgt := 5) hX dJ9_siftDownUsingComparator_85 (by decide) ?_
            exact ih ch _ _ _ _ (by omega) (by omega) hW2 hP2 hD2.1 (fun _ => hD2.2) (by omega)
          · skip
            refine g_goto (tgt := 88) hX dJ9_siftDownUsingComparator_74 (by decide) ?_
            refine g_aload_n (pc' := 89) hX dJ9_siftDownUsingComparator_88 rfl rfl ?_
            refine g_iload_n (pc' := 90) hX dJ9_siftDownUsingComparator_89 rfl rfl ?_
            refine g_aload_n (pc' := 91) hX dJ9_siftDownUsingComparator_90 rfl rfl ?_
            refine g_aastL (n := lnw w qa) (pc' := 92) hX dJ9_siftDownUsingComparator_91 hqa (by omega) (by omega) (by omega) hokx2 rfl ?_
            have hg : (fun i => rdw (upw u qa k (x)) qa i) = sto (fun i => rdw u qa i) k (x) := by
              funext i
              unfold sto
              by_cases hi : i = k
              · rw [rd_up_eq ⟨rfl, hi⟩, if_pos hi]
              · rw [rd_up_ne (fun z => hi z.2), if_neg hi]
            skip
            exact g_retU hX hF dJ9_siftDownUsingComparator_92 ⟨hW.up ⟨rfl, by omega, by omega⟩, by rw [hg]; exact hD.stop h0 (by first | exact (fun i i1 i2 i3 => absurd i2 (by omega)) | exact (fun i i1 i2 i3 => Int.le_trans (Int.not_lt.mp (fun z => by have := he3.mpr z; omega)) (hc4 i i1 i2 i3))) hu, by rw [hg]; exact hP⟩
        refine g_aload_n (pc' := 19) hX dJ9_siftDownUsingComparator_18 rfl rfl ?_
        refine g_iload (pc' := 21) hX dJ9_siftDownUsingComparator_19 rfl rfl ?_
        refine g_aaldL (n := lnw w qa) (pc' := 22) hX dJ9_siftDownUsingComparator_21 (nn_b hqa) (by omega) (by omega) (by omega) rfl ?_
        refine g_astore_7 (pc' := 24) hX dJ9_siftDownUsingComparator_22 (by decide) rfl rfl ?_
        refine g_iload (pc' := 26) hX dJ9_siftDownUsingComparator_24 rfl rfl ?_
        refine g_iconst (pc' := 27) hX dJ9_siftDownUsingComparator_26 rfl ?_
        refine g_iadd (pc' := 28) hX dJ9_siftDownUsingComparator_27 rfl ?_
        refine g_istore_8 (pc' := 30) hX dJ9_siftDownUsingComparator_28 (by decide) rfl rfl ?_
        refine g_iload (pc' := 32) hX dJ9_siftDownUsingComparator_30 rfl rfl ?_
        refine g_iload_n (pc' := 33) hX dJ9_siftDownUsingComparator_32 rfl rfl ?_
        refine g_icmp_ge (pc' := 36) (tgt := 61) hX dJ9_siftDownUsingComparator_33 (by decide) rfl (by omega) (by omega) (fun h33 => ?_) (fun h33 => ?_)
        · skip
          exact c61 _ _ (by omega) (by omega) (by omega) (fun i i1 i2 i3 => by
            rcases (show i = 2 * k + 1 ∨ i = 2 * k + 1 + 1 by omega) with rfl | rfl
            · first
                | exact Int.le_refl _
                | exact Int.not_lt.mp (fun z => by have := he2.mpr z; omega)
                | exact Int.le_of_lt (he3.mp (by omega))
            · first
                | exact Int.le_refl _
                | exact Int.not_lt.mp (fun z => by have := he3.mpr z; omega)
                | (exfalso; omega))
        · skip
          refine g_aload (pc' := 38) hX dJ9_siftDownUsingComparator_36 rfl rfl ?_
          refine g_aload (pc' := 40) hX dJ9_siftDownUsingComparator_38 rfl rfl ?_
          refine g_aload_n (pc' := 41) hX dJ9_siftDownUsingComparator_40 rfl rfl ?_
          refine g_iload (pc' := 43) hX dJ9_siftDownUsingComparator_41 rfl rfl ?_
          refine g_aaldL (n := lnw w qa) (pc' := 44) hX dJ9_siftDownUsingComparator_43 (nn_b hqa) (by omega) (by omega) (by omega) rfl ?_
          obtain ⟨e, he1, he2, he3, hcm⟩ := hM u (hW.wk (fun _ _ z => z.1)) (rdw u qa (2 * k + 1)) (rdw u qa (2 * k + 1 + 1)) (hmem _ (by omega) (by omega) (by omega)) (hmem _ (by omega) (by omega) (by omega))
          refine gF2E0 (pc' := 49) hX dJ9_siftDownUsingComparator_44 hl hc hco (by omega) hcm (Nat.le_of_ble_eq_true rfl) (Nat.le_refl _) rfl ?_
          refine g_if_le (pc' := 52) (tgt := 61) hX dJ9_siftDownUsingComparator_49 (by decide) rfl (by omega) (fun h49 => ?_) (fun h49 => ?_)
          · skip
            exact c61 _ _ (by omega) (by omega) (by omega) (fun i i1 i2 i3 => by
              rcases (show i = 2 * k + 1 ∨ i = 2 * k + 1 + 1 by omega) with rfl | rfl
              · first
                  | exact Int.le_refl _
                  | exact Int.not_lt.mp (fun z => by have := he2.mpr z; omega)
                  | exact Int.le_of_lt (he3.mp (by omega))
              · first
                  | exact Int.le_refl _
                  | exact Int.not_lt.mp (fun z => by have := he3.mpr z; omega)
                  | (exfalso; omega))
          · skip
            refine g_aload_n (pc' := 53) hX dJ9_siftDownUsingComparator_52 rfl rfl ?_
            refine g_iload (pc' := 55) hX dJ9_siftDownUsingComparator_53 rfl rfl ?_
            refine g_dup (pc' := 56) hX dJ9_siftDownUsingComparator_55 (vI_cat _) rfl ?_
            refine g_istore_6 (pc' := 58) hX dJ9_siftDownUsingComparator_56 (by decide) rfl rfl ?_
            refine g_aaldL (n := lnw w qa) (pc' := 59) hX dJ9_siftDownUsingComparator_58 (nn_b hqa) (by omega) (by omega) (by omega) rfl ?_
            refine g_astore_7 (pc' := 61) hX dJ9_siftDownUsingComparator_59 (by decide) rfl rfl ?_
            exact c61 _ _ (by omega) (by omega) (by omega) (fun i i1 i2 i3 => by
              rcases (show i = 2 * k + 1 ∨ i = 2 * k + 1 + 1 by omega) with rfl | rfl
              · first
                  | exact Int.le_refl _
                  | exact Int.not_lt.mp (fun z => by have := he2.mpr z; omega)
                  | exact Int.le_of_lt (he3.mp (by omega))
              · first
                  | exact Int.le_refl _
                  | exact Int.not_lt.mp (fun z => by have := he3.mpr z; omega)
                  | (exfalso; omega))
  exact loop (n.toNat + 1) 0 w _ _ _ (by omega) (by omega) hW hP hD (fun z => absurd z (by omega)) (by omega)

end J4S
