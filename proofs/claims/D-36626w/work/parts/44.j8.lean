/-! THE LIBRARY: poll (by gen/spec_j8.py) -/
set_option maxRecDepth 100000
set_option maxHeartbeats 4000000
section J8S
variable {E : Ev} {w : Wd} {qv co s v : Int} {M : Mth} {d : Nat} {rk : Int → Int} {S T : Int → Prop} {P : Int → Prop}
theorem CMo.mono {qa : Int} (H : CMo E w qa co M d rk T) (h : ∀ r, S r → T r) : CMo E w qa co M d rk S := fun w' hF x y hx hy => H w' hF x y (h x hx) (h y hy)
theorem PQ.mk2 {w2 w3 : Wd} {n : Int} (hq : (eB E : Int) ≤ qv) (hk : kdw w2 qv = 9) (h1 : rdw w2 qv 1 = n) (hc : rdw w2 qv 2 = co) (ha : (eB E : Int) ≤ rdw w2 qv 0) (hka : kdw w2 (rdw w2 qv 0) = 60 + qv.toNat) (hn : 0 ≤ n ∧ n ≤ lnw w2 (rdw w2 qv 0)) (hl : 11 ≤ lnw w2 (rdw w2 qv 0) ∧ lnw w2 (rdw w2 qv 0) < 4096)
    (hnu : ∀ i : Int, n ≤ i → i < lnw w2 (rdw w2 qv 0) → rdw w2 (rdw w2 qv 0) i = -1) (hF : Fr (fun a i => a = rdw w2 qv 0 ∧ 0 ≤ i ∧ i < n) w2 w3) (hH : HPo rk (fun i => rdw w3 (rdw w2 qv 0) i) n) (hP : PMo (fun i => rdw w3 (rdw w2 qv 0) i) n S) : PQ E w3 qv co n S rk := by
  have hne : qv ≠ rdw w2 qv 0 := kd_ne hk hka (by omega)
  have e0 : rdw w3 qv 0 = rdw w2 qv 0 := hF.rd _ _ (fun z => hne z.1)
  refine ⟨⟨hq, by rw [hF.kd]; exact hk, (hF.rd _ _ (fun z => hne z.1)).trans h1, (hF.rd _ _ (fun z => hne z.1)).trans hc, hn.1⟩, ?_, ?_, ?_, fun i i0 i1 => ?_⟩
  · rw [e0, hF.kd, hF.ln]; exact ⟨ha, hka, hn.2, hl.1, hl.2⟩
  · rw [e0]; exact hP
  · rw [e0]; exact hH
  · rw [e0] at i1 ⊢
    rw [hF.ln] at i1
    rw [hF.rd _ _ (fun z => by omega)]; exact hnu i i0 i1
theorem c_j_poll {ci : Nat} {C : String} {T0 : u_T} {N0 : Nat} {dc : Nat} (hQ : PQ E w qv co s S rk) (hs : 1 ≤ s) (hl : LinkF RJ9 149 C yCmp M 2) (hc : GC[ci]? = some (C, T0, N0)) (hco : 0 ≤ co) (hkc : kdw w co = ci + 1) (hok : ∀ r, S r → okr w r ∧ 0 ≤ r) (hG : CMG E w (fun a => qP E w qv a) co M dc rk S) : Call E mJ9_poll (dc + 3) 0 0 [vR qv] w (qA (fun r w' => r = rdw w (rdw w qv 0) 0 ∧ S r ∧ (∀ x, S x → rk r ≤ rk x) ∧ PQ E w' qv co (s - 1) (fun x => S x ∧ x ≠ r) rk ∧ Fr (fun a _ => qP E w qv a) w w' ∧ rdw w' qv 0 = rdw w qv 0)) := by
  refine call_of (av := [(1, qv)]) (by decide +kernel) rfl (Nat.le_of_ble_eq_true rfl) ?_
  intro X hX hF hname
  show GG X 0 0 w 0 [(1, qv), (9, 0), (9, 0), (9, 0), (9, 0), (9, 0)] []
  have hne := hQ.ne
  obtain ⟨⟨q1, q2, q3, q4, q5⟩, ⟨a1, a2, a3, a4, a5⟩, hPM, hHP, hNu⟩ := hQ
  have hS0 : S (rdw w (rdw w qv 0) 0) := (hPM.2 _).mpr ⟨0, by omega, by omega, rfl⟩
  have hok0 := hok _ hS0
  have hmin : ∀ x, S x → rk (rdw w (rdw w qv 0) 0) ≤ rk x := fun x hx => by
    obtain ⟨i, i0, i1, e⟩ := (hPM.2 x).mp hx
    have h := hHP.min (i.toNat + 1) i i0 i1 (by omega)
    simp only [] at h e
    rw [e] at h; exact h
  have e0 : rdw (upw (upw (upw w qv 3 (rdw w qv 3 + 1)) qv 1 (s - 1)) (rdw w qv 0) (s - 1) (-1)) qv 0 = rdw w qv 0 := by rw [rd_up_ne (fun z => hne z.1), rd_up_ne (by omega), rd_up_ne (by omega)]
  have eA : ∀ i, rdw (upw (upw (upw w qv 3 (rdw w qv 3 + 1)) qv 1 (s - 1)) (rdw w qv 0) (s - 1) (-1)) (rdw w qv 0) i = if i = s - 1 then -1 else rdw w (rdw w qv 0) i := fun i => by
    by_cases hi : i = s - 1
    · rw [rd_up_eq ⟨rfl, hi⟩, if_pos hi]
    · rw [rd_up_ne (fun z => hi z.2), if_neg hi, rd_up_ne (fun z => hne z.1.symm), rd_up_ne (fun z => hne z.1.symm)]
  have hF3 : Fr (fun a _ => qP E w qv a) w (upw (upw (upw w qv 3 (rdw w qv 3 + 1)) qv 1 (s - 1)) (rdw w qv 0) (s - 1) (-1)) := ((Fr.rf.up (Or.inl rfl)).up (Or.inl rfl)).up (Or.inr rfl)
  have hPr : PMo (sto (fun i => rdw w (rdw w qv 0) i) 0 (rdw w (rdw w qv 0) (s - 1))) (s - 1) (fun r => S r ∧ r ≠ rdw w (rdw w qv 0) 0) := by
    have h : PMo (fun i => rdw w (rdw w qv 0) i) (s - 1 + 1) S := by rw [show s - 1 + 1 = s by omega]; exact hPM
    exact h.rem (by omega)
  have hmk : ∀ w4 : Wd, Fr (fun a i => a = rdw w qv 0 ∧ 0 ≤ i ∧ i < s - 1) (upw (upw (upw w qv 3 (rdw w qv 3 + 1)) qv 1 (s - 1)) (rdw w qv 0) (s - 1) (-1)) w4 → HPo rk (fun i => rdw w4 (rdw w qv 0) i) (s - 1) → PMo (fun i => rdw w4 (rdw w qv 0) i) (s - 1) (fun r => S r ∧ r ≠ rdw w (rdw w qv 0) 0) → PQ E w4 qv co (s - 1) (fun r => S r ∧ r ≠ rdw w (rdw w qv 0) 0) rk := fun w4 hF4 hH4 hP4 => by
    refine PQ.mk2 (w2 := (upw (upw (upw w qv 3 (rdw w qv 3 + 1)) qv 1 (s - 1)) (rdw w qv 0) (s - 1) (-1))) q1 q2 (by rw [rd_up_ne (fun z => hne z.1), rd_up_eq ⟨rfl, rfl⟩]) (by rw [rd_up_ne (fun z => hne z.1), rd_up_ne (by omega), rd_up_ne (by omega)]; exact q4) (by rw [e0]; exact a1) (by rw [e0]; exact a2) (by rw [e0]; exact ⟨by omega, by show s - 1 ≤ lnw w (rdw w qv 0); omega⟩) (by rw [e0]; exact ⟨a4, a5⟩) (fun i i0 i1 => ?_) (by rw [e0]; exact hF4) (by rw [e0]; exact hH4) (by rw [e0]; exact hP4)
    rw [e0, eA]
    rw [e0] at i1
    split
    · rfl
    · exact hNu i (by omega) i1
  refine g_aload_n (pc' := 1) hX dJ9_poll_0 rfl rfl ?_
  refine gf_J9_17 (pc' := 4) hX dJ9_poll_1 (nn_b q1) q2 rfl ?_
  skip
  refine g_dup (pc' := 5) hX dJ9_poll_4 (vR_cat _) rfl ?_
  refine g_astore_n_1 (pc' := 6) hX dJ9_poll_5 (by decide) rfl rfl ?_
  refine g_iconst (pc' := 7) hX dJ9_poll_6 rfl ?_
  refine g_aaldL (pc' := 8) (n := lnw w (rdw w qv 0)) hX dJ9_poll_7 (nn_b a1) (by omega) rfl (by omega) rfl ?_
  refine g_dup (pc' := 9) hX dJ9_poll_8 (vR_cat _) rfl ?_
  refine g_astore_n_2 (pc' := 10) hX dJ9_poll_9 (by decide) rfl rfl ?_
  refine g_ifnull (pc' := 13) (tgt := 79) hX dJ9_poll_10 (by decide) rfl (fun h10 => absurd h10 (by omega)) (fun h10 => ?_)
  refine g_aload_n (pc' := 14) hX dJ9_poll_13 rfl rfl ?_
  refine g_dup (pc' := 15) hX dJ9_poll_14 (vR_cat _) rfl ?_
  refine gf_J9_93 (pc' := 18) hX dJ9_poll_15 (nn_b q1) q2 rfl ?_
  refine g_iconst (pc' := 19) hX dJ9_poll_18 rfl ?_
  refine g_iadd (pc' := 20) hX dJ9_poll_19 rfl ?_
  refine pf_J9_93 (pc' := 23) hX dJ9_poll_20 q1 q2 rfl ?_
  skip
  refine g_aload_n (pc' := 24) hX dJ9_poll_23 rfl rfl ?_
  refine g_aload_n (pc' := 25) hX dJ9_poll_24 rfl rfl ?_
  refine g_dup (pc' := 26) hX dJ9_poll_25 (vR_cat _) rfl ?_
  refine gf_J9_58 (pc' := 29) hX dJ9_poll_26 (nn_b q1) q2 rfl ?_
  repeat (first | rw [rd_up_ne (by omega)] | rw [rd_up_eq (by omega)])
  rw [q3]
  refine g_iconst (pc' := 30) hX dJ9_poll_29 rfl ?_
  refine g_isub (pc' := 31) hX dJ9_poll_30 rfl ?_
  refine g_dup_x1 (pc' := 32) hX dJ9_poll_31 (vI_cat _) (vR_cat _) rfl ?_
  refine pf_J9_58 (pc' := 35) hX dJ9_poll_32 q1 q2 rfl ?_
  skip
  refine g_dup (pc' := 36) hX dJ9_poll_35 (vI_cat _) rfl ?_
  refine g_istore_n_3 (pc' := 37) hX dJ9_poll_36 (by decide) rfl rfl ?_
  refine g_aaldL (pc' := 38) (n := lnw w (rdw w qv 0)) hX dJ9_poll_37 (nn_b a1) (by rw [kd_up, kd_up]; omega) rfl (by omega) rfl ?_
  rw [rd_up_ne (fun z => hne z.1.symm), rd_up_ne (fun z => hne z.1.symm)]
  refine g_astore_4 (pc' := 40) hX dJ9_poll_38 (by decide) rfl rfl ?_
  refine g_aload_n (pc' := 41) hX dJ9_poll_40 rfl rfl ?_
  refine g_iload_n (pc' := 42) hX dJ9_poll_41 rfl rfl ?_
  refine g_null (pc' := 43) hX dJ9_poll_42 rfl ?_
  refine g_aastL (pc' := 44) (n := lnw w (rdw w qv 0)) hX dJ9_poll_43 a1 (by rw [kd_up, kd_up]; omega) rfl (by omega) (Or.inl (by omega)) rfl ?_
  skip
  refine g_iload_n (pc' := 45) hX dJ9_poll_44 rfl rfl ?_
  refine g_if_le (pc' := 48) (tgt := 79) hX dJ9_poll_45 (by decide) rfl (by omega) (fun h45 => ?_) (fun h45 => ?_)
  · skip
    refine g_aload_n (pc' := 80) hX dJ9_poll_79 rfl rfl ?_
    skip
    first
      | exact g_retA hX hF rfl dJ9_poll_80 ⟨rfl, hS0, hmin, hmk _ q76.1 q76.2.1 q76.2.2, hF3.tr (q76.1.wk (fun a i z => Or.inr z.1)), (q76.1.rd _ _ (fun z => hne z.1)).trans e0⟩
      | exact g_retA hX hF rfl dJ9_poll_80 ⟨rfl, hS0, hmin, hmk _ Fr.rf (HPo.zero (by omega)) (hPr.cg (fun i i0 i1 => absurd i1 (by omega))), hF3, e0⟩
  · skip
    refine g_aload_n (pc' := 49) hX dJ9_poll_48 rfl rfl ?_
    refine gf_J9_21 (pc' := 52) hX dJ9_poll_49 (nn_b q1) q2 rfl ?_
    first
      | rw [show rdw (upw (upw (upw w qv 3 (rdw w qv 3 + 1)) qv 1 (s - 1)) (rdw w qv 0) (s - 1) (-1)) qv 2 = co from by rw [rd_up_ne (fun z => hne z.1), rd_up_ne (by omega), rd_up_ne (by omega)]; exact q4]
      | (repeat rw [rd_up_ne (by omega)]); rw [show rdw (upw (upw (upw w qv 3 (rdw w qv 3 + 1)) qv 1 (s - 1)) (rdw w qv 0) (s - 1) (-1)) qv 2 = co from by rw [rd_up_ne (fun z => hne z.1), rd_up_ne (by omega), rd_up_ne (by omega)]; exact q4]
    skip
    refine g_dup (pc' := 53) hX dJ9_poll_52 (vR_cat _) rfl ?_
    refine g_astore_5 (pc' := 55) hX dJ9_poll_53 (by decide) rfl rfl ?_
    refine g_ifnonnull (pc' := 58) (tgt := 69) hX dJ9_poll_55 (by decide) rfl (fun h55 => ?_) (fun h55 => absurd h55 (by omega))
    refine g_iconst (pc' := 70) hX dJ9_poll_69 rfl ?_
    refine g_aload (pc' := 72) hX dJ9_poll_70 rfl rfl ?_
    refine g_aload_n (pc' := 73) hX dJ9_poll_72 rfl rfl ?_
    refine g_iload_n (pc' := 74) hX dJ9_poll_73 rfl rfl ?_
    refine g_aload (pc' := 76) hX dJ9_poll_74 rfl rfl ?_
    refine gS5U0 (pc' := 79) hX dJ9_poll_76 ml_J9_129 (c_j_siftDown1 (n := s - 1) (S := (fun r => S r ∧ r ≠ rdw w (rdw w qv 0) 0)) hl hc hco hkc a1 (by show 55 ≤ kdw w (rdw w qv 0); omega) ⟨by show s - 1 ≤ lnw w (rdw w qv 0); omega, a5⟩ (by omega) ((hG.cm hF3.gr (Or.inl (Or.inr rfl))).mono (fun r hr => hr.1)) (hPr.cg (fun i i0 i1 => by
      by_cases hi0 : i = 0
      · simp only [sto, if_pos hi0]
      · simp only [sto, if_neg hi0]; rw [eA, if_neg (by omega)])) ⟨fun i i1 i2 i3 i4 => by show rk (rdw (upw (upw (upw w qv 3 (rdw w qv 3 + 1)) qv 1 (s - 1)) (rdw w qv 0) (s - 1) (-1)) (rdw w qv 0) ((i - 1) / 2)) ≤ rk (rdw (upw (upw (upw w qv 3 (rdw w qv 3 + 1)) qv 1 (s - 1)) (rdw w qv 0) (s - 1) (-1)) (rdw w qv 0) i); rw [eA, eA, if_neg (by omega), if_neg (by omega)]; exact hHP i i1 (by omega), fun i i1 i2 i3 i4 => absurd i4 (by omega)⟩ (fun r hr => (hok r hr.1).1)) (Nat.le_of_ble_eq_true rfl) (by omega) rfl (fun w76 q76 => ?_)
    refine g_aload_n (pc' := 80) hX dJ9_poll_79 rfl rfl ?_
    skip
    first
      | exact g_retA hX hF rfl dJ9_poll_80 ⟨rfl, hS0, hmin, hmk _ q76.1 q76.2.1 q76.2.2, hF3.tr (q76.1.wk (fun a i z => Or.inr z.1)), (q76.1.rd _ _ (fun z => hne z.1)).trans e0⟩
      | exact g_retA hX hF rfl dJ9_poll_80 ⟨rfl, hS0, hmin, hmk _ Fr.rf (HPo.zero (by omega)) (hPr.cg (fun i i0 i1 => absurd i1 (by omega))), hF3, e0⟩

end J8S
