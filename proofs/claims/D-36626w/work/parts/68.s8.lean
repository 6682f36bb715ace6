/-! THE SOLVER'S ANSWERS: the first optimal assignment (by gen/spec_s8.py) -/
set_option maxRecDepth 100000
set_option maxHeartbeats 8000000
section S8S
variable {X : Cx} {bc bs pc : Nat} {lv : List (Nat × Int)} {st : List Value} {E : Ev} {w w0 u u' : Wd} {P : Int → Int → Prop} {T r c n m sn sm l i j k v a z xo b it x y sz fd far q row base : Int} {h h' sh C C0 R : Int → Int → Int} {f g : Int → Int} {e : En} {S : Int → Prop} {s : Nat}
def SX (E : Ev) (xo b n m : Int) (h : Int → Int → Int) (sn sm : Int) (sh : Int → Int → Int) (e : En) (w u : Wd) : Prop := XX E xo b n m h sn sm sh e u ∧ Gr (fun a _ => ZX xo b w a) w u
theorem SB.sx (hX : XI E xo b w) (H : SB E xo b n m h sn sm sh e w u) : SX E xo b n m h sn sm sh e w u := ⟨H.1, H.gx hX⟩
theorem SX.tr (H : SX E xo b n m h sn sm sh e w u) (H2 : SX E xo b n m h sn sm sh e u u') : SX E xo b n m h sn sm sh e w u' := ⟨H2.1, GX.tr H.2 H2.2⟩
theorem SB.tr (H : SB E xo b n m h sn sm sh e w u) (H2 : SB E xo b n m h sn sm sh e u u') : SB E xo b n m h sn sm sh e w u' := ⟨H2.1, ZW.tr H.2 H2.2⟩
theorem fZ_go {N i s j : Nat} {F : List Nat} (hC : ∀ i j : Int, 0 ≤ i → i < N → 0 ≤ j → j < N → 0 ≤ R i j) (hi : i < N) (hj : j < N) (hl : F.length = N) (hf : fZ N R (N - i) s = some (F.drop i)) (h0 : ∀ x : Nat, x < j → s >>> x % 2 = 1 ∨ R (i : Int) x ≠ 0 ∨ cW N R (N - (i + 1)) (s ||| 1 <<< x) 0 = 0) (h1 : s >>> j % 2 = 0) (h2 : R (i : Int) j = 0) (h3 : cW N R (N - (i + 1)) (s ||| 1 <<< j) 0 ≠ 0) : F.getD i 0 = j ∧ fZ N R (N - (i + 1)) (s ||| 1 <<< j) = some (F.drop (i + 1)) := by
  have er : (N : Int) - (((N - (i + 1) : Nat) : Int) + 1) = (i : Int) := by omega
  rw [show N - i = (N - (i + 1)) + 1 by omega, fZ_step hC (by omega) hj (by rw [er]; exact h0) h1 (by rw [er]; exact h2) h3, List.drop_eq_getElem_cons (by omega)] at hf
  cases hg : fZ N R (N - (i + 1)) (s ||| 1 <<< j) with
  | none => rw [hg] at hf; cases hf
  | some τ =>
    rw [hg] at hf
    simp only [Option.map_some, Option.some.injEq, List.cons.injEq] at hf
    rw [hf.2]
    exact ⟨by rw [List.getD_eq_getElem?_getD, List.getElem?_eq_getElem (by omega)]; exact hf.1.symm, rfl⟩
theorem cW_go {N i s : Nat} (hC : ∀ i j : Int, 0 ≤ i → i < N → 0 ≤ j → j < N → 0 ≤ R i j) (hi : i < N) (h : cW N R (N - i) s 0 ≠ 0) : ∃ j : Nat, j < N ∧ s >>> j % 2 = 0 ∧ R (i : Int) j = 0 ∧ cW N R (N - (i + 1)) (s ||| 1 <<< j) 0 ≠ 0 := by
  have er : (N : Int) - (((N - (i + 1) : Nat) : Int) + 1) = (i : Int) := by omega
  rw [show N - i = (N - (i + 1)) + 1 by omega] at h
  obtain ⟨j, j1, j2, j3, j4⟩ := cW_ex hC (by omega) h
  rw [er] at j3
  exact ⟨j, j1, j2, j3, j4⟩
/-- digits of an assignment -/
def cdJ (F : List Nat) : Nat → Int
  | 0 => 0
  | k + 1 => 10 * cdJ F k + (F.getD k 0 : Nat)
theorem cdJ_b {F : List Nat} {n : Nat} (hF : ∀ k : Nat, k < n → F.getD k 0 < 10) : ∀ k : Nat, k ≤ n → 0 ≤ cdJ F k ∧ cdJ F k < 10 ^ k
  | 0, _ => ⟨Int.le_refl _, by show (0 : Int) < 10 ^ 0; decide⟩
  | k + 1, h => by
    have h1 := cdJ_b hF k (by omega)
    have h2 := hF k (by omega)
    rw [Int.pow_succ]
    show 0 ≤ 10 * cdJ F k + _ ∧ 10 * cdJ F k + _ < _
    omega
theorem p10 : ∀ k < 8, (10 : Int) ^ k ≤ 10000000 := by decide
theorem cdJ_s {F : List Nat} {k : Nat} (h : F.getD k 0 < 10) (h0 : 0 ≤ cdJ F k) : cdJ F (k + 1) % 10 = (F.getD k 0 : Nat) ∧ cdJ F (k + 1) / 10 = cdJ F k := by
  show (10 * cdJ F k + _) % 10 = _ ∧ (10 * cdJ F k + _) / 10 = _
  omega
theorem c_s_findFirst (hH : XX E xo b n m h sn sm sh e w) : Call E mX1_findFirst 12 686 4655 [vR xo] w (qI (fun r w' => r = (LK n m h).1 ∧ SB E xo b n m h sn sm sh e w w' ∧ rdw w' xo 6 = n ∧ (∀ i j : Int, 0 ≤ i → i < n → 0 ≤ j → j < n → rdw w' (b + 1 + i) j = tC m h i j) ∧ ∀ i : Int, 0 ≤ i → i < n → rdw w' (b + 11) i = ((LK n m h).2.2.2.2.2.getD i.toNat 0 : Nat))) := by
  refine call_of (av := [(1, xo)]) (by decide +kernel) rfl (Nat.le_of_ble_eq_true rfl) ?_
  intro X hX hF hname
  show GG X 686 4655 w 0 [(1, xo), (9, 0), (9, 0), (9, 0), (9, 0)] []
  have hS := SB.rf hH
  have hV := hH.1
  have hn := hH.2.2.1.1.2.1
  have hnb : 1 ≤ n ∧ n ≤ 7 := by omega
  have hC := hH.2.2.1.bCn
  refine g_aload_n (pc' := 1) hX dX1_findFirst_0 rfl rfl ?_
  refine gV0U0 (pc' := 4) hX dX1_findFirst_1 ml_X1_284 gc_X1 hV.h0 hV.hk (c_s_load hS.1) (Nat.le_of_ble_eq_true rfl) (by decide) rfl (fun w1 q1 => ?_)
  obtain ⟨-, hFl, h6, hA⟩ := q1
  have hS := hS.ld hFl
  have hV := hS.1.1
  refine g_aload_n (pc' := 5) hX dX1_findFirst_4 rfl rfl ?_
  refine gV0I (pc' := 8) hX dX1_findFirst_5 ml_X1_286 gc_X1 hV.h0 hV.hk (c_s_solve (n := n) hS.1.1 hS.1.2.2.2.1 h6 hnb hA hC.bD) (Nat.le_of_ble_eq_true rfl) (by decide) ⟨by omega, by omega⟩ rfl (fun r5 w5 q5 => ?_)
  obtain ⟨-, hGs, hQs, hOP, hrs, hHU⟩ := q5
  have hA5 : ∀ i j : Int, 0 ≤ i → i < n → 0 ≤ j → j < n → rdw w5 (b + 1 + i) j = tC m h i j := fun i j i0 i1 j0 j1 => (ZU.ck hV hGs (by omega) j).trans (hA i j i0 i1 j0 j1)
  have h65 : rdw w5 xo 6 = n := (ZU.kx hV hGs (by omega)).trans h6
  have hS := hS.zu hGs hQs
  have hV := hS.1.1
  have hans := hrs.trans (OB_min hnb hC hOP.min).symm
  have hfst := OB_first hnb hC hOP
  obtain ⟨R, hR⟩ : ∃ R : Int → Int → Int, R = fun i j => tC m h i j - rdw w5 (b + 8) i - rdw w5 (b + 9) j := ⟨_, rfl⟩
  have hRb : ∀ i j : Int, 0 ≤ i → i < n → 0 ≤ j → j < n → 0 ≤ R i j ∧ R i j ≤ 1000000 := fun i j i0 i1 j0 j1 => by
    have t1 := hOP.1 i j i0 (by omega) j0 (by omega)
    have t2 := hC i j i0 i1 j0 j1
    have t3 := (hHU.2.1 j j0 j1).1
    have t4 := (hHU.2.2.1 i i0 i1).2.2.2
    rw [hR]
    show 0 ≤ tC m h i j - rdw w5 (b + 8) i - rdw w5 (b + 9) j ∧ tC m h i j - rdw w5 (b + 8) i - rdw w5 (b + 9) j ≤ 1000000
    omega
  refine g_istore_n_1 (pc' := 9) hX dX1_findFirst_8 (by decide) rfl rfl ?_
  refine g_aload_n (pc' := 10) hX dX1_findFirst_9 rfl rfl ?_
  refine gV0U0 (pc' := 13) hX dX1_findFirst_10 ml_X1_289 gc_X1 hV.h0 hV.hk (c_s_countOptimal (R := R) hS.1 h65 (fun i j i0 i1 j0 j1 => by rw [hA5 i j i0 i1 j0 j1, hR]) hRb) (Nat.le_of_ble_eq_true rfl) (by decide) rfl (fun w10 q10 => ?_)
  obtain ⟨hS10, h610, hk10, hG10⟩ := q10
  have hS := hS.tr hS10
  have hV := hS.1.1
  have hmF := (OB_mn hnb hC).2
  rw [← hR] at hfst
  obtain ⟨F, hFe⟩ : ∃ F, F = (LK n m h).2.2.2.2.2 := ⟨_, rfl⟩
  rw [← hFe] at hfst hmF
  have hFl := (pmN_mem.mp hmF).1
  obtain ⟨N, hN⟩ : ∃ N : Nat, n = N := ⟨n.toNat, by omega⟩
  have hNt : n.toNat = N := by omega
  rw [hNt] at hfst hFl hG10
  have hRn : ∀ i j : Int, 0 ≤ i → i < N → 0 ≤ j → j < N → 0 ≤ R i j := fun i j i0 i1 j0 j1 => (hRb i j i0 (by omega) j0 (by omega)).1
  obtain ⟨pa1, pa2, pa3, pa4⟩ := pcn_all N (by omega)
  obtain ⟨Q, hQ⟩ : ∃ Q, Q = 2 ^ N := ⟨_, rfl⟩
  rw [← hQ] at hG10 pa1 pa2 pa3 pa4
  have hF11 : ∀ q : Int, 0 ≤ q → q < 0 → rdw w10 (b + 11) q = ((F.getD q.toNat 0 : Nat) : Int) := fun q q0 q1 => by omega
  refine g_iconst (pc' := 14) hX dX1_findFirst_13 rfl ?_
  refine g_istore_n_2 (pc' := 15) hX dX1_findFirst_14 (by decide) rfl rfl ?_
  refine g_iconst (pc' := 16) hX dX1_findFirst_15 rfl ?_
  refine g_istore_n_3 (pc' := 17) hX dX1_findFirst_16 (by decide) rfl rfl ?_
  have loop : ∀ (f : Nat) (s : Nat) (i : Int) (u : Wd) (x4 : Nat × Int), 0 ≤ i → i ≤ n → s < Q → (pcn s : Nat) = i → SB E xo b n m h sn sm sh e w u → rdw u xo 6 = n → (∀ k q : Int, k ≠ 11 → rdw u (b + k) q = rdw w10 (b + k) q) → fZ N R (N - i.toNat) s = some (F.drop i.toNat) → cW N R (N - i.toNat) s 0 ≠ 0 → (∀ q : Int, 0 ≤ q → q < i → rdw u (b + 11) q = ((F.getD q.toNat 0 : Nat) : Int)) → n < i + f → GG X 0 0 u 17 [(1, xo), (0, r5), (0, (s : Int)), (0, i), x4] [] := by
    intro f
    induction f with
    | zero => intro s i u x4 i0 i1 hsQ hpc hS h6 hk hfz hcw h11 hf; exact absurd hf (by omega)
    | succ f ih =>
      intro s i u x4 i0 i1 hsQ hpc hS h6 hk hfz hcw h11 hf
      have hV := hS.1.1
      refine g_iload_n (pc' := 18) hX dX1_findFirst_17 rfl rfl ?_
      refine g_aload_n (pc' := 19) hX dX1_findFirst_18 rfl rfl ?_
      refine gf_X1_7 (pc' := 22) hX dX1_findFirst_19 hV.h0 hV.hk rfl ?_
      rw [hS.1.2.2.1.1.1.1]
      refine g_icmp_ge (pc' := 25) (tgt := 89) hX dX1_findFirst_22 (by decide) rfl (by omega) (by omega) (fun h22 => ?_) (fun h22 => ?_)
      · skip
        refine g_iload_n (pc' := 90) hX dX1_findFirst_89 rfl rfl ?_
        exact g_retI hX hF dX1_findFirst_90 ⟨hans, hS, h6, fun i j i0 i1 j0 j1 => by
            have e1 := hk (1 + i) j (by omega)
            have e2 := hk10 (1 + i) j (by omega)
            rw [show b + (1 + i) = b + 1 + i by omega] at e1 e2
            rw [e1, e2]; exact hA5 i j i0 i1 j0 j1, fun q q0 q1 => by rw [← hFe]; exact h11 q q0 (by omega)⟩
      · skip
        have hs : s < 128 := by omega
        have hit : ((i.toNat : Nat) : Int) = i := Int.toNat_of_nonneg i0
        obtain ⟨jx, jx1, jx2, jx3, jx4⟩ := cW_go hRn (show i.toNat < N by omega) hcw
        rw [hit] at jx3
        have hRu : ∀ i j : Int, 0 ≤ i → i < n → 0 ≤ j → j < n → rdw u (b + 1 + i) j - rdw u (b + 8) i - rdw u (b + 9) j = R i j := fun i j i0 i1 j0 j1 => by
          have e1 := hk (1 + i) j (by omega)
          have e2 := hk10 (1 + i) j (by omega)
          rw [show b + (1 + i) = b + 1 + i by omega] at e1 e2
          rw [e1, e2, hk 8 i (by omega), hk 9 j (by omega), hk10 8 i (by omega), hk10 9 j (by omega), hA5 i j i0 i1 j0 j1, hR]
        have hcb : ∀ t : Nat, 0 ≤ cW N R (N - (i.toNat + 1)) t 0 ∧ cW N R (N - (i.toNat + 1)) t 0 ≤ 823543 := fun t => ⟨cW_nn hRn (by omega) (Int.le_refl _), cW_le (by omega) hRn (by omega) (Int.le_refl _)⟩
        have hGo : ∀ j : Int, 0 ≤ j → j < n → s >>> j.toNat % 2 = 0 → rdw u (b + 18) ((s ||| 1 <<< j.toNat : Nat) : Int) = cW N R (N - (i.toNat + 1)) (s ||| 1 <<< j.toNat) 0 := fun j j0 j1 hb => by
          have hpo := pcn_or s hs j.toNat (by omega) hb
          have hol := or_lt2 N (by omega) s hs j.toNat (by omega) (by rw [← hQ]; omega) (by omega)
          rw [← hQ] at hol
          rw [hk 18 _ (by omega), hG10 _ hol, hpo.2, show pcn s + 1 = i.toNat + 1 by omega]
        refine g_iconst (pc' := 26) hX dX1_findFirst_25 rfl ?_
        refine g_istore_4 (pc' := 28) hX dX1_findFirst_26 (by decide) rfl rfl ?_
        have loop2 : ∀ (f : Nat) (j : Int), 0 ≤ j → j ≤ jx → (∀ x : Nat, (x : Int) < j → s >>> x % 2 = 1 ∨ R i x ≠ 0 ∨ cW N R (N - (i.toNat + 1)) (s ||| 1 <<< x) 0 = 0) → jx < j + f → GG X 0 0 u 28 [(1, xo), (0, r5), (0, (s : Int)), (0, i), (0, j)] [] := by
          intro f
          induction f with
          | zero => intro j j0 j1 hb hf; exact absurd hf (by omega)
          | succ f ih2 =>
            intro j j0 j1 hb hf
            skip
            refine g_iload_n (pc' := 29) hX dX1_findFirst_28 rfl rfl ?_
            refine g_iload (pc' := 31) hX dX1_findFirst_29 rfl rfl ?_
            refine g_ishr (pc' := 32) (((s >>> j.toNat : Nat) : Int)) hX dX1_findFirst_31 (bt_shr (hs := hs) (by omega)) rfl ?_
            refine g_iconst (pc' := 33) hX dX1_findFirst_32 rfl ?_
            refine g_iand (pc' := 34) (((s >>> j.toNat % 2 : Nat) : Int)) hX dX1_findFirst_33 (b_and1' (b_shr_lt s hs j.toNat (by omega))) rfl ?_
            refine g_iconst (pc' := 35) hX dX1_findFirst_34 rfl ?_
            refine g_icmp_eq (pc' := 38) (tgt := 62) hX dX1_findFirst_35 (by decide) rfl (by omega) (by omega) (fun h35 => ?_) (fun h35 => ?_)
            · skip
              have hbad : s >>> j.toNat % 2 = 1 ∨ R i j ≠ 0 ∨ cW N R (N - (i.toNat + 1)) (s ||| 1 <<< j.toNat) 0 = 0 := Or.inl (by omega)
              refine g_iinc_4 (pc' := 65) hX dX1_findFirst_62 (by decide) rfl rfl ?_
              refine g_goto (tgt := 28) hX dX1_findFirst_65 (by decide) ?_
              have hjx : j ≠ jx := fun z => by
                rw [z] at hbad
                have e1 : ((jx : Int)).toNat = jx := by omega
                rw [e1] at hbad
                omega
              refine ih2 (j + 1) (by omega) (by omega) (fun x hx => ?_) (by omega)
              by_cases hxj : (x : Int) = j
              · rw [show x = j.toNat by omega, show ((j.toNat : Nat) : Int) = j by omega]; exact hbad
              · exact hb x (by omega)
            · skip
              have hb0 : s >>> j.toNat % 2 = 0 := by omega
              have hRj := hRb i j i0 (by omega) j0 (by omega)
              refine g_aload_n (pc' := 39) hX dX1_findFirst_38 rfl rfl ?_
              refine g_iload_n (pc' := 40) hX dX1_findFirst_39 rfl rfl ?_
              refine g_iload (pc' := 42) hX dX1_findFirst_40 rfl rfl ?_
              refine gV2E0 (pc' := 45) hX dX1_findFirst_42 ml_X1_262 gc_X1 hV.h0 hV.hk (c_s_reducedHere hV (by omega) (by omega)) (Nat.le_of_ble_eq_true rfl) (by decide) rfl ?_
              rw [hRu i j i0 (by omega) j0 (by omega)]
              refine g_if_ne (pc' := 48) (tgt := 62) hX dX1_findFirst_45 (by decide) rfl (by omega) (fun h45 => ?_) (fun h45 => ?_)
              · skip
                have hbad : s >>> j.toNat % 2 = 1 ∨ R i j ≠ 0 ∨ cW N R (N - (i.toNat + 1)) (s ||| 1 <<< j.toNat) 0 = 0 := Or.inr (Or.inl (by omega))
                refine g_iinc_4 (pc' := 65) hX dX1_findFirst_62 (by decide) rfl rfl ?_
                refine g_goto (tgt := 28) hX dX1_findFirst_65 (by decide) ?_
                have hjx : j ≠ jx := fun z => by
                  rw [z] at hbad
                  have e1 : ((jx : Int)).toNat = jx := by omega
                  rw [e1] at hbad
                  omega
                refine ih2 (j + 1) (by omega) (by omega) (fun x hx => ?_) (by omega)
                by_cases hxj : (x : Int) = j
                · rw [show x = j.toNat by omega, show ((j.toNat : Nat) : Int) = j by omega]; exact hbad
                · exact hb x (by omega)
              · skip
                refine g_aload_n (pc' := 49) hX dX1_findFirst_48 rfl rfl ?_
                refine gf_X1_73 (pc' := 52) hX dX1_findFirst_49 hV.h0 hV.hk rfl ?_
                rw [hV.f 17 (by decide) (show xF 17 = 18 from rfl)]
                refine g_iload_n (pc' := 53) hX dX1_findFirst_52 rfl rfl ?_
                refine g_iconst (pc' := 54) hX dX1_findFirst_53 rfl ?_
                refine g_iload (pc' := 56) hX dX1_findFirst_54 rfl rfl ?_
                refine g_ishl (pc' := 57) (((1 <<< j.toNat : Nat) : Int)) hX dX1_findFirst_56 (bt_shl (by omega)) rfl ?_
                refine g_ior (pc' := 58) (((s ||| 1 <<< j.toNat : Nat) : Int)) hX dX1_findFirst_57 (b_or s hs j.toNat (by omega)) rfl ?_
                refine g_ialdL (pc' := 59) hX dX1_findFirst_58 (by have := hV.b0; omega) (hV.kk 18 (by decide) (show xK b 18 = 50 from rfl)) (hV.ln 18 (by decide) (show xL 18 = 128 from rfl)) (by have := b_or_lt s hs j.toNat (by omega); omega) rfl ?_
                rw [hGo j j0 (by omega) hb0]
                have hcj := hcb (s ||| 1 <<< j.toNat)
                refine g_if_ne (pc' := 62) (tgt := 68) hX dX1_findFirst_59 (by decide) rfl (by omega) (fun h59 => ?_) (fun h59 => ?_)
                · skip
                  have hcg : cW N R (N - (i.toNat + 1)) (s ||| 1 <<< j.toNat) 0 ≠ 0 := by omega
                  have hjt : ((j.toNat : Nat) : Int) = j := Int.toNat_of_nonneg j0
                  have hgo := fZ_go hRn (show i.toNat < N by omega) (show j.toNat < N by omega) hFl hfz (fun x hx => by rw [hit]; exact hb x (by omega)) hb0 (by rw [hit, hjt]; omega) hcg
                  have hpo := pcn_or s hs j.toNat (by omega) hb0
                  have hol := or_lt2 N (by omega) s hs j.toNat (by omega) (by rw [← hQ]; omega) (by omega)
                  rw [← hQ] at hol
                  refine g_aload_n (pc' := 69) hX dX1_findFirst_68 rfl rfl ?_
                  refine gf_X1_48 (pc' := 72) hX dX1_findFirst_69 hV.h0 hV.hk rfl ?_
                  rw [hV.f 11 (by decide) (show xF 11 = 11 from rfl)]
                  refine g_iload_n (pc' := 73) hX dX1_findFirst_72 rfl rfl ?_
                  refine g_iload (pc' := 75) hX dX1_findFirst_73 rfl rfl ?_
                  refine g_iastL (pc' := 76) hX dX1_findFirst_75 (by have := hV.hbb; omega) (hV.kk 11 (by decide) (show xK b 11 = 50 from rfl)) (hV.ln 11 (by decide) (show xL 11 = 7 from rfl)) (by omega) rfl ?_
                  refine hS.up 11 (by omega) (fun u2 hS g2 h62 => ?_)
                  refine g_iload_n (pc' := 77) hX dX1_findFirst_76 rfl rfl ?_
                  refine g_iconst (pc' := 78) hX dX1_findFirst_77 rfl ?_
                  refine g_iload (pc' := 80) hX dX1_findFirst_78 rfl rfl ?_
                  refine g_ishl (pc' := 81) (((1 <<< j.toNat : Nat) : Int)) hX dX1_findFirst_80 (bt_shl (by omega)) rfl ?_
                  refine g_ior (pc' := 82) (((s ||| 1 <<< j.toNat : Nat) : Int)) hX dX1_findFirst_81 (b_or s hs j.toNat (by omega)) rfl ?_
                  refine g_istore_n_2 (pc' := 83) hX dX1_findFirst_82 (by decide) rfl rfl ?_
                  refine g_iinc_3 (pc' := 86) hX dX1_findFirst_83 (by decide) rfl rfl ?_
                  refine g_goto (tgt := 17) hX dX1_findFirst_86 (by decide) ?_
                  refine ih (s ||| 1 <<< j.toNat) (i + 1) u2 _ (by omega) (by omega) hol (by rw [hpo.2]; omega) hS (h62.trans h6) (fun k q hk11 => by rw [g2 k q, if_neg (fun z => hk11 z.1)]; exact hk k q hk11) (by rw [show (i + 1).toNat = i.toNat + 1 by omega]; exact hgo.2) (by rw [show (i + 1).toNat = i.toNat + 1 by omega]; exact hcg) (fun q q0 q1 => ?_) (by omega)
                  rw [g2 11 q]
                  by_cases hq : q = i
                  · rw [if_pos ⟨rfl, hq⟩, hq, hgo.1]; omega
                  · rw [if_neg (fun z => hq z.2)]; exact h11 q q0 (by omega)
                · skip
                  have hbad : s >>> j.toNat % 2 = 1 ∨ R i j ≠ 0 ∨ cW N R (N - (i.toNat + 1)) (s ||| 1 <<< j.toNat) 0 = 0 := Or.inr (Or.inr (by omega))
                  refine g_iinc_4 (pc' := 65) hX dX1_findFirst_62 (by decide) rfl rfl ?_
                  refine g_goto (tgt := 28) hX dX1_findFirst_65 (by decide) ?_
                  have hjx : j ≠ jx := fun z => by
                    rw [z] at hbad
                    have e1 : ((jx : Int)).toNat = jx := by omega
                    rw [e1] at hbad
                    omega
                  refine ih2 (j + 1) (by omega) (by omega) (fun x hx => ?_) (by omega)
                  by_cases hxj : (x : Int) = j
                  · rw [show x = j.toNat by omega, show ((j.toNat : Nat) : Int) = j by omega]; exact hbad
                  · exact hb x (by omega)
        exact loop2 100 0 (by omega) (by omega) (fun x hx => by omega) (by omega)
  exact GG_less (loop 100 0 0 w10 _ (by omega) (by omega) (by omega) rfl hS h610 (fun k q _ => rfl) hfst.1 hfst.2 hF11 (by omega)) (by omega) (by omega)

theorem c_o_optimalCount (hH : XX E xo b n m h sn sm sh e w)  : Call E mX1_optimalCount 12 686 4655 [vR xo] w (qI (fun r w' => r = (LK n m h).2.1 ∧ XX E xo b n m h sn sm sh e w' ∧ Gr (fun a _ => ZX xo b w a) w w')) := by
  refine call_of (av := [(1, xo)]) (by decide +kernel) rfl (Nat.le_of_ble_eq_true rfl) ?_
  intro X hX hF hname
  show GG X 686 4655 w 0 [(1, xo)] []
  have hS := SB.rf hH
  have hV := hH.1
  have hn := hH.2.2.1.1.2.1
  have hnb : 1 ≤ n ∧ n ≤ 7 := by omega
  have hC := hH.2.2.1.bCn
  refine g_aload_n (pc' := 1) hX dX1_optimalCount_0 rfl rfl ?_
  refine gV0U0 (pc' := 4) hX dX1_optimalCount_1 ml_X1_284 gc_X1 hV.h0 hV.hk (c_s_load hS.1) (Nat.le_of_ble_eq_true rfl) (by decide) rfl (fun w1 q1 => ?_)
  obtain ⟨-, hFl, h6, hA⟩ := q1
  have hS := hS.ld hFl
  have hV := hS.1.1
  refine g_aload_n (pc' := 5) hX dX1_optimalCount_4 rfl rfl ?_
  refine gV0I (pc' := 8) hX dX1_optimalCount_5 ml_X1_286 gc_X1 hV.h0 hV.hk (c_s_solve (n := n) hS.1.1 hS.1.2.2.2.1 h6 hnb hA hC.bD) (Nat.le_of_ble_eq_true rfl) (by decide) ⟨by omega, by omega⟩ rfl (fun r5 w5 q5 => ?_)
  obtain ⟨-, hGs, hQs, hOP, hrs, hHU⟩ := q5
  have hA5 : ∀ i j : Int, 0 ≤ i → i < n → 0 ≤ j → j < n → rdw w5 (b + 1 + i) j = tC m h i j := fun i j i0 i1 j0 j1 => (ZU.ck hV hGs (by omega) j).trans (hA i j i0 i1 j0 j1)
  have h65 : rdw w5 xo 6 = n := (ZU.kx hV hGs (by omega)).trans h6
  have hS := hS.zu hGs hQs
  have hV := hS.1.1
  have hans := hrs.trans (OB_min hnb hC hOP.min).symm
  have hfst := OB_first hnb hC hOP
  obtain ⟨R, hR⟩ : ∃ R : Int → Int → Int, R = fun i j => tC m h i j - rdw w5 (b + 8) i - rdw w5 (b + 9) j := ⟨_, rfl⟩
  have hRb : ∀ i j : Int, 0 ≤ i → i < n → 0 ≤ j → j < n → 0 ≤ R i j ∧ R i j ≤ 1000000 := fun i j i0 i1 j0 j1 => by
    have t1 := hOP.1 i j i0 (by omega) j0 (by omega)
    have t2 := hC i j i0 i1 j0 j1
    have t3 := (hHU.2.1 j j0 j1).1
    have t4 := (hHU.2.2.1 i i0 i1).2.2.2
    rw [hR]
    show 0 ≤ tC m h i j - rdw w5 (b + 8) i - rdw w5 (b + 9) j ∧ tC m h i j - rdw w5 (b + 8) i - rdw w5 (b + 9) j ≤ 1000000
    omega
  refine g_pop (pc' := 9) hX dX1_optimalCount_8 (vI_cat _) rfl ?_
  refine g_aload_n (pc' := 10) hX dX1_optimalCount_9 rfl rfl ?_
  refine gV0U0 (pc' := 13) hX dX1_optimalCount_10 ml_X1_289 gc_X1 hV.h0 hV.hk (c_s_countOptimal (R := R) hS.1 h65 (fun i j i0 i1 j0 j1 => by rw [hA5 i j i0 i1 j0 j1, hR]) hRb) (Nat.le_of_ble_eq_true rfl) (by decide) rfl (fun w10 q10 => ?_)
  obtain ⟨hS10, h610, hk10, hG10⟩ := q10
  have hS := hS.tr hS10
  have hV := hS.1.1
  refine g_aload_n (pc' := 14) hX dX1_optimalCount_13 rfl rfl ?_
  refine gf_X1_73 (pc' := 17) hX dX1_optimalCount_14 hV.h0 hV.hk rfl ?_
  rw [hV.f 17 (by decide) (show xF 17 = 18 from rfl)]
  refine g_iconst (pc' := 18) hX dX1_optimalCount_17 rfl ?_
  refine g_ialdL (pc' := 19) hX dX1_optimalCount_18 (by have := hV.b0; omega) (hV.kk 18 (by decide) (show xK b 18 = 50 from rfl)) (hV.ln 18 (by decide) (show xL 18 = 128 from rfl)) (by omega) rfl ?_
  have hz := hG10 0 (Nat.two_pow_pos _)
  rw [show n.toNat - pcn 0 = n.toNat from rfl] at hz
  have hans : rdw w10 (b + 18) 0 = (LK n m h).2.1 := by
    rw [OB_cnt hnb hC hOP, ← hR]; exact hz
  exact g_retI hX hF dX1_optimalCount_19 ⟨hans, hS.1, hS.gx hH.1⟩

theorem c_o_assigned (hH : XX E xo b n m h sn sm sh e w) (br : -2147483648 ≤ r ∧ r ≤ 2147483647)  : Call E mX1_assigned 13 688 4667 [vR xo, vI r] w (qC (if 0 ≤ r ∧ r ≤ n - 1 then 0 else 1) (((LK n m h).2.2.2.2.2.getD r.toNat 0 : Nat)) (fun w' => XX E xo b n m h sn sm sh e w' ∧ Gr (fun a _ => ZX xo b w a) w w') w) := by
  refine call_of (av := [(1, xo), (0, r)]) (by decide +kernel) rfl (Nat.le_of_ble_eq_true rfl) ?_
  intro X hX hF hname
  show GG X 688 4667 w 0 [(1, xo), (0, r)] []
  have hS := SB.rf hH
  have hV := hH.1
  have hn := hH.2.2.1.1.2.1
  have hnb : 1 ≤ n ∧ n ≤ 7 := by omega
  have hC := hH.2.2.1.bCn
  refine g_aload_n (pc' := 1) hX dX1_assigned_0 rfl rfl ?_
  refine g_iload_n (pc' := 2) hX dX1_assigned_1 rfl rfl ?_
  refine gV1E0 (pc' := 5) hX dX1_assigned_2 ml_X1_169 gc_X1 hV.h0 hV.hk (c_k_isRow hV hS.1.2.2.1.1.1.1 (by omega) (by omega)) (Nat.le_of_ble_eq_true rfl) (by decide) rfl ?_
  refine gS1UX (pc' := 8) hX dX1_assigned_5 ml_X1_176 (c_k_needPlace (by omega)) (Nat.le_of_ble_eq_true rfl) (by decide) ⟨by omega, by omega⟩ rfl (fun w5 q5 => ?_) (fun k2 w2 hk0 hq => by
    obtain ⟨rfl, hz5, hG5⟩ := hq
    exact g_outX hX hF hk0 ⟨by (repeat' split) <;> omega, hG5⟩)
  obtain ⟨hz5, hw5⟩ := q5
  rw [hw5]
  refine g_aload_n (pc' := 9) hX dX1_assigned_8 rfl rfl ?_
  refine gV0I (pc' := 12) hX dX1_assigned_9 ml_X1_292 gc_X1 hV.h0 hV.hk (c_s_findFirst hS.1) (Nat.le_of_ble_eq_true rfl) (by decide) ⟨by omega, by omega⟩ rfl (fun r9 w9 q9 => ?_)
  obtain ⟨-, hS9, h69, hA9, hF9⟩ := q9
  have hS := hS.tr hS9
  have hV := hS.1.1
  have hans := hF9 r (by omega) (by omega)
  refine g_pop (pc' := 13) hX dX1_assigned_12 (vI_cat _) rfl ?_
  refine g_aload_n (pc' := 14) hX dX1_assigned_13 rfl rfl ?_
  refine gf_X1_48 (pc' := 17) hX dX1_assigned_14 hV.h0 hV.hk rfl ?_
  rw [hV.f 11 (by decide) (show xF 11 = 11 from rfl)]
  refine g_iload_n (pc' := 18) hX dX1_assigned_17 rfl rfl ?_
  refine g_ialdL (pc' := 19) hX dX1_assigned_18 (by have := hV.b0; omega) (hV.kk 11 (by decide) (show xK b 11 = 50 from rfl)) (hV.ln 11 (by decide) (show xL 11 = 7 from rfl)) (by omega) rfl ?_
  exact g_retIX hX hF dX1_assigned_19 ⟨by (repeat' split) <;> omega, hans, hS.1, hS.gx hH.1⟩

theorem c_o_secondBest (hH : XX E xo b n m h sn sm sh e w) : Call E mX1_secondBest 13 5502 37324 [vR xo] w (qI (fun r w' => r = (if n = 1 then -1 else (LK n m h).2.2.1) ∧ XX E xo b n m h sn sm sh e w' ∧ Gr (fun a _ => ZX xo b w a) w w')) := by
  refine call_of (av := [(1, xo)]) (by decide +kernel) rfl (Nat.le_of_ble_eq_true rfl) ?_
  intro X hX hF hname
  show GG X 5502 37324 w 0 [(1, xo), (9, 0), (9, 0), (9, 0)] []
  have hS := SB.rf hH
  have hV := hH.1
  have hn := hH.2.2.1.1.2.1
  have hnb : 1 ≤ n ∧ n ≤ 7 := by omega
  have hC := hH.2.2.1.bCn
  refine g_aload_n (pc' := 1) hX dX1_secondBest_0 rfl rfl ?_
  refine gf_X1_7 (pc' := 4) hX dX1_secondBest_1 hV.h0 hV.hk rfl ?_
  rw [hS.1.2.2.1.1.1.1]
  refine g_iconst (pc' := 5) hX dX1_secondBest_4 rfl ?_
  refine g_icmp_ne (pc' := 8) (tgt := 10) hX dX1_secondBest_5 (by decide) rfl (by omega) (by omega) (fun h5 => ?_) (fun h5 => ?_)
  · skip
    refine g_aload_n (pc' := 11) hX dX1_secondBest_10 rfl rfl ?_
    refine gV0I (pc' := 14) hX dX1_secondBest_11 ml_X1_292 gc_X1 hV.h0 hV.hk (c_s_findFirst hS.1) (Nat.le_of_ble_eq_true rfl) (by decide) ⟨by omega, by omega⟩ rfl (fun r11 w11 q11 => ?_)
    obtain ⟨-, hS9, h69, hA9, hF9⟩ := q11
    have hS := hS.tr hS9
    have hV := hS.1.1
    have hn2 : n ≠ 1 := by omega
    have hmF := (OB_mn hnb hC).2
    obtain ⟨F, hFe⟩ : ∃ F, F = (LK n m h).2.2.2.2.2 := ⟨_, rfl⟩
    rw [← hFe] at hmF hF9
    have hFb : ∀ k : Nat, (k : Int) < n → 0 ≤ ((F.getD k 0 : Nat) : Int) ∧ ((F.getD k 0 : Nat) : Int) < n := fun k hk => by
      have e := pmN_mem.mp hmF
      have := e.2.2 (F.getD k 0) (by rw [List.getD_eq_getElem?_getD, List.getElem?_eq_getElem (by omega)]; exact List.getElem_mem _)
      omega
    have hcb := cdJ_b (F := F) (n := n.toNat) (fun k hk => by have := hFb k (by omega); omega)
    refine g_pop (pc' := 15) hX dX1_secondBest_14 (vI_cat _) rfl ?_
    refine g_iconst (pc' := 16) hX dX1_secondBest_15 rfl ?_
    refine g_istore_n_1 (pc' := 17) hX dX1_secondBest_16 (by decide) rfl rfl ?_
    refine g_iconst (pc' := 18) hX dX1_secondBest_17 rfl ?_
    refine g_istore_n_2 (pc' := 19) hX dX1_secondBest_18 (by decide) rfl rfl ?_
    have loop : ∀ (f : Nat) (i : Int), 0 ≤ i → i ≤ n → n < i + f → GG X 4816 32669 w11 19 [(1, xo), (0, cdJ F i.toNat), (0, i), (9, 0)] [] := by
      intro f
      induction f with
      | zero => intro i i0 i1 hf; exact absurd hf (by omega)
      | succ f ih =>
        intro i i0 i1 hf
        refine g_iload_n (pc' := 20) hX dX1_secondBest_19 rfl rfl ?_
        refine g_aload_n (pc' := 21) hX dX1_secondBest_20 rfl rfl ?_
        refine gf_X1_7 (pc' := 24) hX dX1_secondBest_21 hV.h0 hV.hk rfl ?_
        rw [hS.1.2.2.1.1.1.1]
        refine g_icmp_ge (pc' := 27) (tgt := 45) hX dX1_secondBest_24 (by decide) rfl (by omega) (by omega) (fun h24 => ?_) (fun h24 => ?_)
        · skip
          rw [show i = n by omega]
          refine g_sipush (pc' := 48) hX dX1_secondBest_45 rfl rfl ?_
          refine g_istore_n_2 (pc' := 49) hX dX1_secondBest_48 (by decide) rfl rfl ?_
          refine g_aload_n (pc' := 50) hX dX1_secondBest_49 rfl rfl ?_
          refine gf_X1_7 (pc' := 53) hX dX1_secondBest_50 hV.h0 hV.hk rfl ?_
          rw [hS.1.2.2.1.1.1.1]
          refine g_iconst (pc' := 54) hX dX1_secondBest_53 rfl ?_
          refine g_isub (pc' := 55) hX dX1_secondBest_54 rfl ?_
          refine g_istore_n_3 (pc' := 56) hX dX1_secondBest_55 (by decide) rfl rfl ?_
          have loop : ∀ (f : Nat) (z t : Int) (u : Wd), -1 ≤ z → z < n → 0 ≤ t → t ≤ 10000 → SX E xo b n m h sn sm sh e w u → (∀ i : Int, z < i → i < n → t ≤ (fun i : Int => woF (fun k => LW n m h (7 * i + k)) ((LK n m h).2.2.2.2.2.getD i.toNat 0 : Nat) n.toNat) i) → (t = 10000 ∨ ∃ i : Int, 0 ≤ i ∧ i < n ∧ t = (fun i : Int => woF (fun k => LW n m h (7 * i + k)) ((LK n m h).2.2.2.2.2.getD i.toNat 0 : Nat) n.toNat) i) → z + 1 < f → GG X (688 * (z + 1).toNat) (4667 * (z + 1).toNat) u 56 [(1, xo), (0, cdJ F (z + 1).toNat), (0, t), (0, z)] [] := by
            intro f
            induction f with
            | zero => intro z t u z0 z1 t0 t1 hS hle hat hf; exact absurd hf (by omega)
            | succ f ih =>
              intro z t u z0 z1 t0 t1 hS hle hat hf
              have hV := hS.1.1
              refine g_iload_n (pc' := 57) hX dX1_secondBest_56 rfl rfl ?_
              refine g_if_lt (pc' := 60) (tgt := 85) hX dX1_secondBest_57 (by decide) rfl (by omega) (fun h57 => ?_) (fun h57 => ?_)
              · skip
                refine g_iload_n (pc' := 86) hX dX1_secondBest_85 rfl rfl ?_
                exact g_retI hX hF dX1_secondBest_86 ⟨by rw [if_neg hn2]; exact (OB_second hnb hC hn2 t1 (fun i i0 i1 => hle i (by omega) i1) hat).symm, hS.1, hS.2⟩
              · skip
                have hzt : ((z.toNat : Nat) : Int) = z := by omega
                have hct := cdJ_s (F := F) (k := z.toNat) (by have := hFb z.toNat (by omega); omega) (hcb z.toNat (by omega)).1
                rw [show z.toNat + 1 = (z + 1).toNat by omega] at hct
                have hcz := hcb (z + 1).toNat (by omega)
                have hFz := hFb z.toNat (by omega)
                have hp10 := p10 (z + 1).toNat (by omega)
                refine g_iload_n (pc' := 61) hX dX1_secondBest_60 rfl rfl ?_
                refine g_aload_n (pc' := 62) hX dX1_secondBest_61 rfl rfl ?_
                refine g_iload_n (pc' := 63) hX dX1_secondBest_62 rfl rfl ?_
                refine g_iload_n (pc' := 64) hX dX1_secondBest_63 rfl rfl ?_
                refine g_bipush (pc' := 66) hX dX1_secondBest_64 rfl rfl ?_
                refine g_iremP (pc' := 67) hX dX1_secondBest_66 (by omega) (by omega) rfl ?_
                rw [hct.1]
                refine gV2IX (pc' := 70) hX dX1_secondBest_67 ml_X1_298 gc_X1 hV.h0 hV.hk (c_o_minimumWithout hS.1 (r := z) (c := ((F.getD z.toNat 0 : Nat) : Int)) (by omega) (by omega)) (Nat.le_of_ble_eq_true rfl) (by decide) ⟨by omega, by omega⟩ rfl (fun r67 w67 q67 => ?_) (fun k2 w2 hk0 hq => by have := hq.1; rw [if_pos (by omega)] at this; omega)
                obtain ⟨-, hr67, hS67⟩ := q67
                have hS3 := hS.tr hS67
                rw [if_neg hn2] at hr67
                have hwo : r67 = (fun i : Int => woF (fun k => LW n m h (7 * i + k)) ((LK n m h).2.2.2.2.2.getD i.toNat 0 : Nat) n.toNat) z := by rw [hr67, hFe]
                have hwb := woF_b (f := fun k => LW n m h (7 * z + k)) (c := ((F.getD z.toNat 0 : Nat) : Int)) (k := n.toNat) (fun k k0 k1 => (lwF_b (n := n.toNat) (by omega) (by rw [Int.toNat_of_nonneg (by omega)]; exact hC) _).1)
                rw [← hr67] at hwb
                refine g_mmin (pc' := 73) hX dX1_secondBest_70 q566 q211 q64 q212 (by omega) (by omega) (by omega) (Nat.le_of_ble_eq_true rfl) rfl ?_
                refine g_istore_n_2 (pc' := 74) hX dX1_secondBest_73 (by decide) rfl rfl ?_
                refine g_iload_n (pc' := 75) hX dX1_secondBest_74 rfl rfl ?_
                refine g_bipush (pc' := 77) hX dX1_secondBest_75 rfl rfl ?_
                refine g_idivP (pc' := 78) hX dX1_secondBest_77 (by omega) (by omega) rfl ?_
                skip
                refine g_istore_n_1 (pc' := 79) hX dX1_secondBest_78 (by decide) rfl rfl ?_
                refine g_iinc_3 (pc' := 82) hX dX1_secondBest_79 (by decide) rfl rfl ?_
                refine g_goto (tgt := 56) hX dX1_secondBest_82 (by decide) ?_
                rw [hct.2, show cdJ F z.toNat = cdJ F (z + -1 + 1).toNat by rw [show z + -1 + 1 = z by omega]]
                refine GG_less (ih (z + -1) _ w67 (by omega) (by omega) ?_ ?_ hS3 (fun i i0 i1 => ?_) ?_ (by omega)) (by omega) (by omega)
                · split <;> omega
                · split <;> omega
                · by_cases hi : i = z
                  · rw [hi, ← hwo]; split <;> omega
                  · have := hle i (by omega) i1
                    split <;> omega
                · split
                  · exact Or.inr ⟨z, by omega, by omega, hwo⟩
                  · exact hat
          rw [show cdJ F n.toNat = cdJ F (n - 1 + 1).toNat by rw [show n - 1 + 1 = n by omega]]
          exact GG_less (loop 100 (n - 1) 10000 w11 (by omega) (by omega) (by omega) (by omega) (hS.sx hH.1) (fun i i0 i1 => by omega) (Or.inl rfl) (by omega)) (by omega) (by omega)
        · skip
          refine g_bipush (pc' := 29) hX dX1_secondBest_27 rfl rfl ?_
          refine g_iload_n (pc' := 30) hX dX1_secondBest_29 rfl rfl ?_
          refine g_imul (pc' := 31) hX dX1_secondBest_30 rfl ?_
          refine g_aload_n (pc' := 32) hX dX1_secondBest_31 rfl rfl ?_
          refine gf_X1_48 (pc' := 35) hX dX1_secondBest_32 hV.h0 hV.hk rfl ?_
          rw [hV.f 11 (by decide) (show xF 11 = 11 from rfl)]
          refine g_iload_n (pc' := 36) hX dX1_secondBest_35 rfl rfl ?_
          refine g_ialdL (pc' := 37) hX dX1_secondBest_36 (by have := hV.b0; omega) (hV.kk 11 (by decide) (show xK b 11 = 50 from rfl)) (hV.ln 11 (by decide) (show xL 11 = 7 from rfl)) (by omega) rfl ?_
          rw [hF9 i i0 (by omega)]
          refine g_iadd (pc' := 38) hX dX1_secondBest_37 rfl ?_
          refine g_istore_n_1 (pc' := 39) hX dX1_secondBest_38 (by decide) rfl rfl ?_
          refine g_iinc_2 (pc' := 42) hX dX1_secondBest_39 (by decide) rfl rfl ?_
          refine g_goto (tgt := 19) hX dX1_secondBest_42 (by decide) ?_
          have e := ih (i + 1) (by omega) (by omega) (by omega)
          rw [show (i + 1).toNat = i.toNat + 1 by omega] at e
          exact e
    exact GG_less (loop 100 0 (by omega) (by omega) (by omega)) (by omega) (by omega)
  · skip
    refine g_iconst (pc' := 9) hX dX1_secondBest_8 rfl ?_
    exact g_retI hX hF dX1_secondBest_9 ⟨by rw [if_pos (by omega)], hS.1, hS.gx hH.1⟩

end S8S
