/-! THE LIBRARY: offer and poll (by gen/spec_j7.py) -/
set_option maxRecDepth 100000
set_option maxHeartbeats 4000000
/-- the comparator's contract at every world behind w that keeps all but P -/
def CMG (E : Ev) (w : Wd) (P : Int → Prop) (co : Int) (M : Mth) (d : Nat) (rk : Int → Int) (T : Int → Prop) : Prop :=
  ∀ w' : Wd, Gr (fun a _ => P a) w w' → ∀ x y : Int, T x → T y → ∃ e : Int, (-1 ≤ e ∧ e ≤ 1) ∧ (e < 0 ↔ rk x < rk y) ∧ (0 < e ↔ rk y < rk x) ∧ Call E M d 0 0 [vR co, vR x, vR y] w' (qE e w')
section J7S
variable {E : Ev} {w : Wd} {qv co s v : Int} {M : Mth} {d : Nat} {rk : Int → Int} {S T : Int → Prop} {P : Int → Prop}
theorem CMG.cm {w2 : Wd} {qa : Int} (H : CMG E w P co M d rk T) (h : Gr (fun a _ => P a) w w2) (hq : P qa ∨ kdw w qa = 0) : CMo E w2 qa co M d rk T := fun w' hF x y hx hy =>
  H w' (h.trN hF.gr (fun a i hk z => by
    rcases hq with z2 | z2
    · rw [z]; exact z2
    · rw [z] at hk; exact absurd z2 hk)) x y hx hy
/-- a queue put together -/
theorem PQ.mk {w2 w3 : Wd} {n : Int} (hq : (eB E : Int) ≤ qv) (hk : kdw w2 qv = 9) (hc : rdw w2 qv 2 = co) (ha : (eB E : Int) ≤ rdw w2 qv 0) (hka : kdw w2 (rdw w2 qv 0) = 60 + qv.toNat) (hn : 0 ≤ n ∧ n ≤ lnw w2 (rdw w2 qv 0)) (hl : 11 ≤ lnw w2 (rdw w2 qv 0) ∧ lnw w2 (rdw w2 qv 0) < 4096)
    (hnu : ∀ i : Int, n ≤ i → i < lnw w2 (rdw w2 qv 0) → rdw w2 (rdw w2 qv 0) i = -1) (hF : Fr (fun a i => a = rdw w2 qv 0 ∧ 0 ≤ i ∧ i < n) w2 w3) (hH : HPo rk (fun i => rdw w3 (rdw w2 qv 0) i) n) (hP : PMo (fun i => rdw w3 (rdw w2 qv 0) i) n S) :
    PQ E (upw w3 qv 1 n) qv co n S rk ∧ rdw (upw w3 qv 1 n) qv 0 = rdw w2 qv 0 := by
  have hne : qv ≠ rdw w2 qv 0 := kd_ne hk hka (by omega)
  have e0 : rdw (upw w3 qv 1 n) qv 0 = rdw w2 qv 0 := by rw [rd_up_ne (by omega), hF.rd _ _ (fun z => hne z.1)]
  have eA : ∀ i, rdw (upw w3 qv 1 n) (rdw w2 qv 0) i = rdw w3 (rdw w2 qv 0) i := fun i => rd_up_ne (fun z => hne z.1.symm)
  refine ⟨⟨⟨hq, by rw [kd_up, hF.kd]; exact hk, rd_up_eq ⟨rfl, rfl⟩, by rw [rd_up_ne (by omega), hF.rd _ _ (fun z => hne z.1)]; exact hc, hn.1⟩, ?_, ?_, ?_, fun i i0 i1 => ?_⟩, e0⟩
  · rw [e0, kd_up, ln_up, hF.kd, hF.ln]; exact ⟨ha, hka, hn.2, hl.1, hl.2⟩
  · rw [e0]; exact hP.cg (fun i _ _ => eA i)
  · rw [e0]
    intro i i1 i2
    show rk (rdw (upw w3 qv 1 n) (rdw w2 qv 0) ((i - 1) / 2)) ≤ rk (rdw (upw w3 qv 1 n) (rdw w2 qv 0) i)
    rw [eA, eA]; exact hH i i1 i2
  · rw [e0] at i1 ⊢
    rw [ln_up, hF.ln] at i1
    rw [eA, hF.rd _ _ (fun z => by omega)]; exact hnu i i0 i1
theorem cpy_rd {a : Int} {k N : Nat} {i : Int} (hne : a ≠ szw w) (hl : lnw w a ≤ N) : rdw (cpy w a k N) (szw w) i = if 0 ≤ i ∧ i < lnw w a then rdw w a i else -1 := by
  unfold cpy
  rw [if_pos hl, rd_cp]
  by_cases hi : 0 ≤ i ∧ i < lnw w a
  · rw [if_pos ⟨rfl, by omega, by omega⟩, if_pos hi, rd_al, if_neg hne, show (0 : Int) + (i - 0) = i by omega]
  · rw [if_neg (fun z => hi ⟨z.2.1, by omega⟩), if_neg hi, rd_al, if_pos rfl]
theorem cpy_ro {a b : Int} {k N : Nat} {i : Int} (hb : b ≠ szw w) : rdw (cpy w a k N) b i = rdw w b i := by
  unfold cpy
  rw [rd_cp, if_neg (fun z => hb z.1), rd_al, if_neg hb]
theorem cpy_gr {a : Int} {k N : Nat} {P : Int → Int → Prop} (hfr : FRs w) : Gr P w (cpy w a k N) := by
  have h := Gr.al (P := P) (w0 := w) (k := k) (n := (N : Int)) (f := fun _ => -1) Gr.rf hfr
  refine ⟨h.1, fun b hb => ⟨(h.2 b hb).1, (h.2 b hb).2.1, fun j hj => ?_⟩⟩
  exact cpy_ro (fun z => hb (by rw [z]; exact hfr _ (Int.le_refl _)))
theorem UPo.last {A : Int → Int} {s x : Int} (H : HPo rk A s) (h0 : 0 ≤ s) : UPo rk A (s + 1) s x := ⟨fun i i1 i2 i3 _ => H i i1 (by omega), fun i i1 i2 i3 => absurd i2 (by omega)⟩

theorem c_j_offer {ci : Nat} {C : String} {T0 : u_T} {N0 N : Nat} {dc : Nat} (hQ : PQ E w qv co s S rk) (hl : LinkF RJ9 149 C yCmp M 2) (hc : GC[ci]? = some (C, T0, N0)) (hco : 0 ≤ co) (hkc : kdw w co = ci + 1) (hs : s ≤ 2600) (hv : ¬ S v) (hv0 : 0 ≤ v) (hok : ∀ r, (S r ∨ r = v) → okr w r) (hG : CMG E w (fun a => qP E w qv a) co M dc rk (fun r => S r ∨ r = v)) (hN : s = lnw w (rdw w qv 0) → (N : Int) = pqN s) : Call E mJ9_offer (dc + 5) 1 N [vR qv, vR v] w (qI (fun r w' => r = 1 ∧ PQ E w' qv co (s + 1) (fun r => S r ∨ r = v) rk ∧ Gr (fun a _ => qP E w qv a) w w' ∧ lnw w' (rdw w' qv 0) = (if s < lnw w (rdw w qv 0) then lnw w (rdw w qv 0) else pqN s))) := by
  refine call_of (av := [(1, qv), (1, v)]) (by decide +kernel) rfl (Nat.le_of_ble_eq_true rfl) ?_
  intro X hX hF hname
  show GG X 1 N w 0 [(1, qv), (1, v), (9, 0)] []
  have hF0 := hF
  have hne := hQ.ne
  obtain ⟨⟨q1, q2, q3, q4, q5⟩, ⟨a1, a2, a3, a4, a5⟩, hPM, hHP, hNu⟩ := hQ
  have c43 : ∀ (u : Wd), kdw u qv = 9 → rdw u qv 2 = co → (eB E : Int) ≤ rdw u qv 0 → kdw u (rdw u qv 0) = 60 + qv.toNat → s + 1 ≤ lnw u (rdw u qv 0) → lnw u (rdw u qv 0) < 4096 → 11 ≤ lnw u (rdw u qv 0) → (∀ i : Int, s ≤ i → i < lnw u (rdw u qv 0) → rdw u (rdw u qv 0) i = -1) → Gr (fun a _ => qP E w qv a) w u → (∀ i : Int, 0 ≤ i → i < s → rdw u (rdw u qv 0) i = rdw w (rdw w qv 0) i) → (qP E w qv (rdw u qv 0) ∨ kdw w (rdw u qv 0) = 0) → lnw u (rdw u qv 0) = (if s < lnw w (rdw w qv 0) then lnw w (rdw w qv 0) else pqN s) → GG X 0 0 u 43 [(1, qv), (1, v), (0, s)] [] := by
    intro u b1 b2 b3 b4 b5 b6 b7 b8 b9 b10 b11 b12
    have hkcu : kdw u co = ci + 1 := (b9.kd (by omega)).trans hkc
    have hoku : ∀ r, (S r ∨ r = v) → okr u r := fun r hr => by
      rcases hok r hr with z | z
      · exact Or.inl z
      · exact Or.inr (by rw [b9.kd (by omega)]; exact z)
    have hPMu : PMo (fun i => rdw u (rdw u qv 0) i) s S := hPM.cg (fun i i0 i1 => b10 i i0 i1)
    have hHPu : HPo rk (fun i => rdw u (rdw u qv 0) i) s := fun i i1 i2 => by
      show rk (rdw u (rdw u qv 0) ((i - 1) / 2)) ≤ rk (rdw u (rdw u qv 0) i)
      rw [b10 _ (by omega) (by omega), b10 _ (by omega) i2]; exact hHP i i1 i2
    refine g_aload_n (pc' := 44) hX dJ9_offer_43 rfl rfl ?_
    refine g_iload_n (pc' := 45) hX dJ9_offer_44 rfl rfl ?_
    refine g_aload_n (pc' := 46) hX dJ9_offer_45 rfl rfl ?_
    refine gV2U0 (pc' := 49) hX dJ9_offer_46 ml_J9_100 gc_J9 (nn_b q1) b1 (c_j_siftUp (n := s + 1) q1 b1 b2 hl hc hco hkcu b3 (by omega) ⟨b5, b6⟩ (by omega) ⟨q5, by omega⟩ (hG.cm b9 b11) (hPMu.add q5 hv) (UPo.last hHPu q5) hoku) (Nat.le_of_ble_eq_true rfl) (by omega) rfl (fun u2 q46 => ?_)
    obtain ⟨hF, hH2, hP2⟩ := q46
    have hk2 : kdw u2 qv = 9 := by rw [hF.kd]; exact b1
    have hmk := PQ.mk q1 b1 b2 b3 b4 (by omega) (by omega) (fun i i0 i1 => b8 i (by omega) i1) hF hH2 hP2
    refine g_aload_n (pc' := 50) hX dJ9_offer_49 rfl rfl ?_
    refine g_iload_n (pc' := 51) hX dJ9_offer_50 rfl rfl ?_
    refine g_iconst (pc' := 52) hX dJ9_offer_51 rfl ?_
    refine g_iadd (pc' := 53) hX dJ9_offer_52 rfl ?_
    refine pf_J9_58 (pc' := 56) hX dJ9_offer_53 q1 hk2 rfl ?_
    refine g_iconst (pc' := 57) hX dJ9_offer_56 rfl ?_
    exact g_retZ hX hF0 dJ9_offer_57 (Or.inr rfl) ⟨rfl, hmk.1, (b9.trN hF.gr (fun a i hk z => by
      rcases b11 with z2 | z2
      · rw [z.1]; exact z2
      · rw [z.1] at hk; exact absurd z2 hk)).up (Or.inl rfl), by rw [hmk.2, ln_up, hF.ln]; exact b12⟩
  refine g_aload_n (pc' := 1) hX dJ9_offer_0 rfl rfl ?_
  refine g_ifnonnull (pc' := 4) (tgt := 12) hX dJ9_offer_1 (by decide) rfl (fun h1 => ?_) (fun h1 => absurd h1 (by omega))
  refine g_aload_n (pc' := 13) hX dJ9_offer_12 rfl rfl ?_
  refine g_dup (pc' := 14) hX dJ9_offer_13 (vR_cat _) rfl ?_
  refine gf_J9_93 (pc' := 17) hX dJ9_offer_14 (nn_b q1) q2 rfl ?_
  refine g_iconst (pc' := 18) hX dJ9_offer_17 rfl ?_
  refine g_iadd (pc' := 19) hX dJ9_offer_18 rfl ?_
  refine pf_J9_93 (pc' := 22) hX dJ9_offer_19 q1 q2 rfl ?_
  have hF1 := (Fr.rf (P := fun a i => a = qv ∧ i = 3) (w := w)).up (a := qv) (i := 3) (x := rdw w qv 3 + 1) ⟨rfl, rfl⟩
  have hG1 : Gr (fun a _ => qP E w qv a) w (upw w qv 3 (rdw w qv 3 + 1)) := Gr.rf.up (Or.inl rfl)
  have e0 : rdw (upw w qv 3 (rdw w qv 3 + 1)) qv 0 = rdw w qv 0 := rd_up_ne (by omega)
  have eA : ∀ i, rdw (upw w qv 3 (rdw w qv 3 + 1)) (rdw w qv 0) i = rdw w (rdw w qv 0) i := fun i => rd_up_ne (fun z => hne z.1.symm)
  refine g_aload_n (pc' := 23) hX dJ9_offer_22 rfl rfl ?_
  refine gf_J9_58 (pc' := 26) hX dJ9_offer_23 (nn_b q1) q2 rfl ?_
  repeat (first | rw [rd_up_ne (by omega)] | rw [rd_up_eq (by omega)])
  rw [q3]
  refine g_istore_n_2 (pc' := 27) hX dJ9_offer_26 (by decide) rfl rfl ?_
  refine g_iload_n (pc' := 28) hX dJ9_offer_27 rfl rfl ?_
  refine g_aload_n (pc' := 29) hX dJ9_offer_28 rfl rfl ?_
  refine gf_J9_17 (pc' := 32) hX dJ9_offer_29 (nn_b q1) q2 rfl ?_
  repeat (first | rw [rd_up_ne (by omega)] | rw [rd_up_eq (by omega)])
  refine g_alenL (pc' := 33) (n := lnw w (rdw w qv 0)) hX dJ9_offer_32 (nn_b a1) (by rw [kd_up]; omega) rfl (by omega) rfl ?_
  refine g_icmp_lt (pc' := 36) (tgt := 43) hX dJ9_offer_33 (by decide) rfl (by omega) (by omega) (fun h33 => ?_) (fun h33 => ?_)
  · skip
    refine GG_less (c43 _ q2 (by rw [rd_up_ne (by omega)]; exact q4) (by rw [e0]; exact a1) (by rw [e0]; exact a2) (by rw [e0, ln_up]; omega) (by rw [e0]; exact a5) (by rw [e0]; exact a4) (fun i i0 i1 => by
      rw [e0] at i1 ⊢
      rw [eA]; exact hNu i i0 i1) hG1 (fun i i0 i1 => by rw [e0]; exact eA i) (by rw [e0]; exact Or.inl (Or.inr rfl)) (by rw [e0, ln_up, if_pos h33])) (by omega) (by omega)
  · skip
    refine g_fr (fun hfr hs0 => ?_)
    refine g_szB hX (fun hszB => ?_)
    refine g_aload_n (pc' := 37) hX dJ9_offer_36 rfl rfl ?_
    refine g_iload_n (pc' := 38) hX dJ9_offer_37 rfl rfl ?_
    refine g_iconst (pc' := 39) hX dJ9_offer_38 rfl ?_
    refine g_iadd (pc' := 40) hX dJ9_offer_39 rfl ?_
    refine gV1EU (pc' := 43) hX dJ9_offer_40 ml_J9_96 gc_J9 (nn_b q1) q2 (c_j_pqGrow (N := N) (s := s) rfl q1 q2 (by rw [e0]; exact a1) (by rw [e0]; exact a2) (by rw [e0, ln_up]; omega) (by omega) (hN (by omega)) (fun j j0 j1 => by rw [e0, eA]; exact hok _ (Or.inl ((hPM.2 _).mpr ⟨j, j0, j1, rfl⟩)))) (Nat.le_of_ble_eq_true rfl) (by omega) (by omega) rfl ?_
    have hcap : s = lnw w (rdw w qv 0) := by omega
    have hNN := hN hcap
    have hnq : qv ≠ szw w := fun z => by have h1 := hfr qv (by rw [z]; exact Int.le_refl _); rw [kd_up] at h1; omega
    have hna : rdw w qv 0 ≠ szw w := fun z => by have h1 := hfr (rdw w qv 0) (by rw [z]; exact Int.le_refl _); rw [kd_up] at h1; omega
    have hN2 : s + 1 ≤ (N : Int) ∧ (N : Int) < 4096 := by rw [hNN]; unfold pqN; split <;> omega
    have hqb : rdw (upw (cpy (upw w qv 3 (rdw w qv 3 + 1)) (rdw (upw w qv 3 (rdw w qv 3 + 1)) qv 0) (60 + qv.toNat) N) qv 0 (szw (upw w qv 3 (rdw w qv 3 + 1)))) qv 0 = szw w := rd_up_eq ⟨rfl, rfl⟩
    have hG2 : Gr (fun a _ => qP E w qv a) w (upw (cpy (upw w qv 3 (rdw w qv 3 + 1)) (rdw (upw w qv 3 (rdw w qv 3 + 1)) qv 0) (60 + qv.toNat) N) qv 0 (szw (upw w qv 3 (rdw w qv 3 + 1)))) := (hG1.tr (cpy_gr hfr)).up (Or.inl rfl)
    have hrB : ∀ i, rdw (upw (cpy (upw w qv 3 (rdw w qv 3 + 1)) (rdw (upw w qv 3 (rdw w qv 3 + 1)) qv 0) (60 + qv.toNat) N) qv 0 (szw (upw w qv 3 (rdw w qv 3 + 1)))) (szw w) i = if 0 ≤ i ∧ i < lnw w (rdw w qv 0) then rdw w (rdw w qv 0) i else -1 := fun i => by
      rw [rd_up_ne (fun z => hnq z.1.symm), e0]
      have h := cpy_rd (w := upw w qv 3 (rdw w qv 3 + 1)) (a := rdw w qv 0) (k := 60 + qv.toNat) (N := N) (i := i) hna (by rw [ln_up]; omega)
      rw [ln_up, eA] at h
      exact h
    have hkB : kdw (upw (cpy (upw w qv 3 (rdw w qv 3 + 1)) (rdw (upw w qv 3 (rdw w qv 3 + 1)) qv 0) (60 + qv.toNat) N) qv 0 (szw (upw w qv 3 (rdw w qv 3 + 1)))) (szw w) = 60 + qv.toNat := by
      unfold cpy; rw [kd_up, kd_cp, kd_al, sz_up, if_pos rfl]
    have hlB : lnw (upw (cpy (upw w qv 3 (rdw w qv 3 + 1)) (rdw (upw w qv 3 (rdw w qv 3 + 1)) qv 0) (60 + qv.toNat) N) qv 0 (szw (upw w qv 3 (rdw w qv 3 + 1)))) (szw w) = (N : Int) := by
      unfold cpy; rw [ln_up, ln_cp, ln_al, sz_up, if_pos rfl]
    refine GG_less (c43 _ ((hG2.kd (by omega)).trans q2) (by rw [rd_up_ne (by omega), cpy_ro (w := upw w qv 3 (rdw w qv 3 + 1)) hnq, rd_up_ne (by omega)]; exact q4) (by rw [hqb]; exact hszB) (by rw [hqb]; exact hkB) (by rw [hqb, hlB]; omega) (by rw [hqb, hlB]; omega) (by rw [hqb, hlB]; omega) (fun i i0 i1 => by rw [hqb, hrB, if_neg (by omega)]) hG2 (fun i i0 i1 => by rw [hqb, hrB, if_pos (by omega)]) (by rw [hqb]; exact Or.inr (hfr _ (Int.le_refl _))) (by rw [hqb, hlB, hNN, if_neg (by omega)])) (by omega) (by omega)

end J7S
