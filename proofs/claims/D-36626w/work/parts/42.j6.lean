/-! THE LIBRARY: a priority queue grows (by gen/spec_j6.py) -/
set_option maxRecDepth 100000
set_option maxHeartbeats 4000000
/-- the capacity behind cp -/
def pqN (cp : Int) : Int := if cp < 64 then cp + (cp + 2) else cp + cp / 2
section J6S
variable {E : Ev} {w : Wd} {qv s : Int}
theorem c_j_pqGrow {N : Nat} {c1 : Int} (hc1 : c1 = s + 1) (hq : (eB E : Int) ≤ qv) (hk : kdw w qv = 9) (ha : (eB E : Int) ≤ rdw w qv 0) (hka : kdw w (rdw w qv 0) = 60 + qv.toNat) (hs : s = lnw w (rdw w qv 0)) (h11 : 11 ≤ s ∧ s < 2700) (hN : (N : Int) = pqN s) (hok : ∀ j, 0 ≤ j → j < s → okr w (rdw w (rdw w qv 0) j)) : Call E mJ9_grow 4 1 N [vR qv, vI c1] w (qEU (upw (cpy w (rdw w qv 0) (60 + qv.toNat) N) qv 0 (szw w))) := by
  refine call_of (av := [(1, qv), (0, c1)]) (by decide +kernel) rfl (Nat.le_of_ble_eq_true rfl) ?_
  intro X hX hF hname
  show GG X 1 N w 0 [(1, qv), (0, c1), (9, 0), (9, 0)] []
  refine g_fr (fun hfr hs0 => ?_)
  have hne : qv ≠ szw w := fun z => by have h1 := hfr qv (by omega); omega
  subst hs
  have hN1 : (N : Int) ≤ 1000000 := by rw [hN]; unfold pqN; split <;> omega
  refine g_aload_n (pc' := 1) hX dJ9_grow_0 rfl rfl ?_
  refine gf_J9_17 (pc' := 4) hX dJ9_grow_1 (nn_b hq) hk rfl ?_
  refine g_alenL (n := lnw w (rdw w qv 0)) (pc' := 5) hX dJ9_grow_4 (nn_b ha) (by omega) rfl (by omega) rfl ?_
  refine g_istore_n_2 (pc' := 6) hX dJ9_grow_5 (by decide) rfl rfl ?_
  refine g_iload_n (pc' := 7) hX dJ9_grow_6 rfl rfl ?_
  refine g_iload_n (pc' := 8) hX dJ9_grow_7 rfl rfl ?_
  refine g_iload_n (pc' := 9) hX dJ9_grow_8 rfl rfl ?_
  refine g_isub (pc' := 10) hX dJ9_grow_9 rfl ?_
  refine g_iload_n (pc' := 11) hX dJ9_grow_10 rfl rfl ?_
  refine g_bipush (pc' := 13) hX dJ9_grow_11 rfl rfl ?_
  refine g_icmp_ge (pc' := 16) (tgt := 22) hX dJ9_grow_13 (by decide) rfl (by omega) (by omega) (fun h13 => ?_) (fun h13 => ?_)
  · skip
    refine g_iload_n (pc' := 23) hX dJ9_grow_22 rfl rfl ?_
    refine g_iconst (pc' := 24) hX dJ9_grow_23 rfl ?_
    refine g_ishr (pc' := 25) (lnw w (rdw w qv 0) / 2) hX dJ9_grow_24 (b_half' (by omega)) rfl ?_
    refine gS3E0 (pc' := 28) hX dJ9_grow_25 ml_J9_80 (c_j_newLen (by omega) (by omega) (by omega)) (Nat.le_of_ble_eq_true rfl) (by decide) rfl ?_
    first
      | (rw [if_pos (by omega), show lnw w (rdw w qv 0) + (lnw w (rdw w qv 0) + 2) = (N : Int) by rw [hN]; unfold pqN; rw [if_pos (by omega)]])
      | (rw [if_pos (by omega), show lnw w (rdw w qv 0) + lnw w (rdw w qv 0) / 2 = (N : Int) by rw [hN]; unfold pqN; rw [if_neg (by omega)]])
    refine g_istore_n_3 (pc' := 29) hX dJ9_grow_28 (by decide) rfl rfl ?_
    refine g_aload_n (pc' := 30) hX dJ9_grow_29 rfl rfl ?_
    refine g_aload_n (pc' := 31) hX dJ9_grow_30 rfl rfl ?_
    refine gf_J9_17 (pc' := 34) hX dJ9_grow_31 (nn_b hq) hk rfl ?_
    refine g_iload_n (pc' := 35) hX dJ9_grow_34 rfl rfl ?_
    refine gS2EA (pc' := 38) hX dJ9_grow_35 ml_J9_86 (c_j_copyOf (nn_b ha) (by omega) (by omega) hok (by omega) (60 + qv.toNat) (by omega)) (Nat.le_of_ble_eq_true rfl) (by decide) (by omega) rfl ?_
    refine pf_J9_17 (pc' := 41) hX dJ9_grow_38 hq (by show kdw (alw w (60 + qv.toNat) (N : Int) (fun _ => -1)) qv = 9; rw [kd_al, if_neg hne]; exact hk) rfl ?_
    skip
    exact g_retEU hX hF dJ9_grow_41 (rfl)
  · skip
    refine g_iload_n (pc' := 17) hX dJ9_grow_16 rfl rfl ?_
    refine g_iconst (pc' := 18) hX dJ9_grow_17 rfl ?_
    refine g_iadd (pc' := 19) hX dJ9_grow_18 rfl ?_
    refine g_goto (tgt := 25) hX dJ9_grow_19 (by decide) ?_
    refine gS3E0 (pc' := 28) hX dJ9_grow_25 ml_J9_80 (c_j_newLen (by omega) (by omega) (by omega)) (Nat.le_of_ble_eq_true rfl) (by decide) rfl ?_
    first
      | (rw [if_pos (by omega), show lnw w (rdw w qv 0) + (lnw w (rdw w qv 0) + 2) = (N : Int) by rw [hN]; unfold pqN; rw [if_pos (by omega)]])
      | (rw [if_pos (by omega), show lnw w (rdw w qv 0) + lnw w (rdw w qv 0) / 2 = (N : Int) by rw [hN]; unfold pqN; rw [if_neg (by omega)]])
    refine g_istore_n_3 (pc' := 29) hX dJ9_grow_28 (by decide) rfl rfl ?_
    refine g_aload_n (pc' := 30) hX dJ9_grow_29 rfl rfl ?_
    refine g_aload_n (pc' := 31) hX dJ9_grow_30 rfl rfl ?_
    refine gf_J9_17 (pc' := 34) hX dJ9_grow_31 (nn_b hq) hk rfl ?_
    refine g_iload_n (pc' := 35) hX dJ9_grow_34 rfl rfl ?_
    refine gS2EA (pc' := 38) hX dJ9_grow_35 ml_J9_86 (c_j_copyOf (nn_b ha) (by omega) (by omega) hok (by omega) (60 + qv.toNat) (by omega)) (Nat.le_of_ble_eq_true rfl) (by decide) (by omega) rfl ?_
    refine pf_J9_17 (pc' := 41) hX dJ9_grow_38 hq (by show kdw (alw w (60 + qv.toNat) (N : Int) (fun _ => -1)) qv = 9; rw [kd_al, if_neg hne]; exact hk) rfl ?_
    skip
    exact g_retEU hX hF dJ9_grow_41 (rfl)

theorem c_j_siftUp {co n k x : Int} {ci : Nat} {C : String} {T : u_T} {N : Nat} {M : Mth} {dc : Nat} {rk : Int → Int} {S : Int → Prop} (hq : (eB E : Int) ≤ qv) (hk9 : kdw w qv = 9) (h2 : rdw w qv 2 = co) (hl : LinkF RJ9 149 C yCmp M 2) (hc : GC[ci]? = some (C, T, N)) (hco : 0 ≤ co) (hkc : kdw w co = ci + 1) (hqa : (eB E : Int) ≤ rdw w qv 0) (hkq : 55 ≤ kdw w (rdw w qv 0)) (hlq : n ≤ lnw w (rdw w qv 0) ∧ lnw w (rdw w qv 0) < 4096) (hn : 1 ≤ n) (hk : 0 ≤ k ∧ k < n) (hM : CMo E w (rdw w qv 0) co M dc rk S) (hP : PMo (sto (fun i => rdw w (rdw w qv 0) i) k x) n S) (hU : UPo rk (fun i => rdw w (rdw w qv 0) i) n k x) (hok : ∀ r, S r → okr w r) : Call E mJ9_siftUp (dc + 2) 0 0 [vR qv, vI k, vR x] w (qU (fun w' => Fr (fun a i => a = rdw w qv 0 ∧ 0 ≤ i ∧ i < n) w w' ∧ HPo rk (fun i => rdw w' (rdw w qv 0) i) n ∧ PMo (fun i => rdw w' (rdw w qv 0) i) n S)) := by
  refine call_of (av := [(1, qv), (0, k), (1, x)]) (by decide +kernel) rfl (Nat.le_of_ble_eq_true rfl) ?_
  intro X hX hF hname
  show GG X 0 0 w 0 [(1, qv), (0, k), (1, x)] []
  refine g_aload_n (pc' := 1) hX dJ9_siftUp_0 rfl rfl ?_
  refine gf_J9_21 (pc' := 4) hX dJ9_siftUp_1 (nn_b hq) hk9 rfl ?_
  rw [h2]
  refine g_ifnull (pc' := 7) (tgt := 23) hX dJ9_siftUp_4 (by decide) rfl (fun h4 => absurd h4 (by omega)) (fun h4 => ?_)
  refine g_iload_n (pc' := 8) hX dJ9_siftUp_7 rfl rfl ?_
  refine g_aload_n (pc' := 9) hX dJ9_siftUp_8 rfl rfl ?_
  refine g_aload_n (pc' := 10) hX dJ9_siftUp_9 rfl rfl ?_
  refine gf_J9_17 (pc' := 13) hX dJ9_siftUp_10 (nn_b hq) hk9 rfl ?_
  refine g_aload_n (pc' := 14) hX dJ9_siftUp_13 rfl rfl ?_
  refine gf_J9_21 (pc' := 17) hX dJ9_siftUp_14 (nn_b hq) hk9 rfl ?_
  rw [h2]
  refine gS4U0 (pc' := 20) hX dJ9_siftUp_17 ml_J9_136 (c_j_siftUp1 hl hc hco hkc hqa hkq hlq hn hk hM hP hU hok) (Nat.le_of_ble_eq_true rfl) (Nat.le_refl _) rfl (fun w17 q17 => ?_)
  refine g_goto (tgt := 32) hX dJ9_siftUp_20 (by decide) ?_
  exact g_retU hX hF dJ9_siftUp_32 q17

end J6S
