/-! THE SOLVER'S ANSWERS: potentials (by gen/spec_s9.py) -/
set_option maxRecDepth 100000
set_option maxHeartbeats 8000000
/-- what the potentials are worth -/
def PSD (n m : Int) (h : Int → Int → Int) : Prop :=
  (∀ k : Int, 0 ≤ k → k < n → tC m h k (((LK n m h).2.2.2.2.2.getD k.toNat 0 : Nat) : Int) - PU n m h k - PV n m h (((LK n m h).2.2.2.2.2.getD k.toNat 0 : Nat) : Int) = 0) ∧
  (∀ k j : Int, 0 ≤ k → k < n → 0 ≤ j → j < n → 0 ≤ tC m h k j - PU n m h k - PV n m h j) ∧ sm' n.toNat (fun k => PU n m h k + PV n m h k) = (LK n m h).1
section S9S
variable {X : Cx} {bc bs pc : Nat} {lv : List (Nat × Int)} {st : List Value} {E : Ev} {w w0 u u' : Wd} {P : Int → Int → Prop} {T r c n m sn sm l i j k v a z xo b it x y sz fd far q row base s : Int} {h h' sh C C0 R : Int → Int → Int} {f g : Int → Int} {e : En} {S : Int → Prop}
theorem nw77 (hS : QS E xo b sz u s S fd) (h : s ≤ 49) : 3 + nwS u b s ≤ 77 := by
  have h1 := nw_le hS h
  have h2 : gsl (lnw u (rdw u (b + 15) 0)) ≤ 74 := by unfold gsl; (repeat' split) <;> omega
  omega
theorem c_s_findPotentials (hH : XX E xo b n m h sn sm sh e w) : Call E mX1_findPotentials 12 772 7966 [vR xo] w (qI (fun r w' => r = (LK n m h).1 ∧ SB E xo b n m h sn sm sh e w w' ∧ (∀ i j : Int, 0 ≤ i → i < n → 0 ≤ j → j < n → rdw w' (b + 1 + i) j = tC m h i j) ∧ (∀ i : Int, 0 ≤ i → i < n → rdw w' (b + 19) i = PU n m h i) ∧ (∀ j : Int, 0 ≤ j → j < n → rdw w' (b + 20) j = PV n m h j) ∧ PSD n m h)) := by
  refine call_of (av := [(1, xo)]) (by decide +kernel) rfl (Nat.le_of_ble_eq_true rfl) ?_
  intro X hX hF hname
  show GG X 772 7966 w 0 [(1, xo), (9, 0), (9, 0), (9, 0), (9, 0)] []
  have hS := SB.rf hH
  have hV := hH.1
  have hn := hH.2.2.1.1.2.1
  have hnb : 1 ≤ n ∧ n ≤ 7 := by omega
  have hC := hH.2.2.1.bCn
  refine g_aload_n (pc' := 1) hX dX1_findPotentials_0 rfl rfl ?_
  refine gV0U0 (pc' := 4) hX dX1_findPotentials_1 ml_X1_284 gc_X1 hV.h0 hV.hk (c_s_load hS.1) (Nat.le_of_ble_eq_true rfl) (by decide) rfl (fun w1 q1 => ?_)
  obtain ⟨-, hFl, h6, hA⟩ := q1
  have hS := hS.ld hFl
  have hV := hS.1.1
  refine g_aload_n (pc' := 5) hX dX1_findPotentials_4 rfl rfl ?_
  refine gV0I (pc' := 8) hX dX1_findPotentials_5 ml_X1_286 gc_X1 hV.h0 hV.hk (c_s_solve (n := n) hS.1.1 hS.1.2.2.2.1 h6 hnb hA hC.bD) (Nat.le_of_ble_eq_true rfl) (by decide) ⟨by omega, by omega⟩ rfl (fun r5 w5 q5 => ?_)
  obtain ⟨-, hGs, hQs, hOP, hrs, hHU⟩ := q5
  have hA5 : ∀ i j : Int, 0 ≤ i → i < n → 0 ≤ j → j < n → rdw w5 (b + 1 + i) j = tC m h i j := fun i j i0 i1 j0 j1 => (ZU.ck hV hGs (by omega) j).trans (hA i j i0 i1 j0 j1)
  have h65 : rdw w5 xo 6 = n := (ZU.kx hV hGs (by omega)).trans h6
  have hS := hS.zu hGs hQs
  have hV := hS.1.1
  have hans := hrs.trans (OB_min hnb hC hOP.min).symm
  have hfst := OB_first hnb hC hOP
  obtain ⟨R, hR⟩ : ∃ R : Int → Int → Int, R = fun i j => tC m h i j - rdw w5 (b + 8) i - rdw w5 (b + 9) j := ⟨_, rfl⟩
  have hRb : ∀ i j : Int, 0 ≤ i → i < n → 0 ≤ j → j < n → 0 ≤ R i j ∧ R i j ≤ 1000000 := fun i j i0 i1 j0 j1 => by
    have t1 := hOP.1 i j i0 (by omega) j0 (by omega)
    have t2 := hC i j i0 i1 j0 j1
    have t3 := (hHU.2.1 j j0 j1).1
    have t4 := (hHU.2.2.1 i i0 i1).2.2.2
    rw [hR]
    show 0 ≤ tC m h i j - rdw w5 (b + 8) i - rdw w5 (b + 9) j ∧ tC m h i j - rdw w5 (b + 8) i - rdw w5 (b + 9) j ≤ 1000000
    omega
  clear hfst hR hRb
  have hub : ∀ i j : Int, 0 ≤ i → i < n → 0 ≤ j → j < n → 0 ≤ tC m h i j - rdw w5 (b + 8) i - rdw w5 (b + 9) j ∧ tC m h i j - rdw w5 (b + 8) i - rdw w5 (b + 9) j ≤ 80000 := fun i j i0 i1 j0 j1 => by
    have t1 := hOP.1 i j i0 (by omega) j0 (by omega)
    have t2 := hC i j i0 i1 j0 j1
    have t3 := (hHU.2.1 j j0 j1).1
    have t4 := (hHU.2.2.1 i i0 i1).2.2.2
    omega
  have hrw : ∀ j : Int, 0 ≤ j → j < n → (0 ≤ rdw w5 (b + 10) j ∧ rdw w5 (b + 10) j < n) ∧ rdw w5 (b + 11) (rdw w5 (b + 10) j) = j := fun j j0 j1 => by
    have := hOP.2.2 j j0 (by omega)
    exact ⟨⟨this.1.1, by omega⟩, this.2⟩
  have hV5 := hV
  have FF : ∀ (u : Wd), Gr (ZQ E xo b w5) w5 u → ∀ i j : Int, 0 ≤ i → i < n → 0 ≤ j → j < n → rdw u (b + 1 + i) j - rdw u (b + 8) i - rdw u (b + 9) j = tC m h i j - rdw w5 (b + 8) i - rdw w5 (b + 9) j := fun u hZ i j i0 i1 j0 j1 => by rw [ZQ.ck hV5 hZ (by omega), ZQ.kp hV5 hZ (k := 8) (by omega) (by omega), ZQ.kp hV5 hZ (k := 9) (by omega) (by omega), hA5 i j i0 i1 j0 j1]
  have hS5 := hS
  refine g_istore_n_1 (pc' := 9) hX dX1_findPotentials_8 (by decide) rfl rfl ?_
  refine g_aload_n (pc' := 10) hX dX1_findPotentials_9 rfl rfl ?_
  refine gV0U0 (pc' := 13) hX dX1_findPotentials_10 ml_X1_268 gc_X1 hV.h0 hV.hk (c_s_beginPaths hV hS.1.2.2.2.1 h65 hnb) (Nat.le_of_ble_eq_true rfl) (by decide) rfl (fun w10 q10 => ?_)
  obtain ⟨hV10, hF10, hQ10, hd10⟩ := q10
  have hZ10 := hF10.gr
  have hV := hV10
  have hr0 := hrw 0 (by omega) (by omega)
  refine g_aload_n (pc' := 14) hX dX1_findPotentials_13 rfl rfl ?_
  refine g_iconst (pc' := 15) hX dX1_findPotentials_14 rfl ?_
  refine g_aload_n (pc' := 16) hX dX1_findPotentials_15 rfl rfl ?_
  refine gf_X1_45 (pc' := 19) hX dX1_findPotentials_16 hV.h0 hV.hk rfl ?_
  rw [hV.f 10 (by decide) (show xF 10 = 10 from rfl)]
  refine g_iconst (pc' := 20) hX dX1_findPotentials_19 rfl ?_
  refine g_ialdL (pc' := 21) hX dX1_findPotentials_20 (by have := hV.b0; omega) (hV.kk 10 (by decide) (show xK b 10 = 50 from rfl)) (hV.ln 10 (by decide) (show xL 10 = 7 from rfl)) (by omega) rfl ?_
  rw [ZQ.kp hV5 hZ10 (k := 10) (by omega) (by omega)]
  refine gV2U (pc' := 24) hX dX1_findPotentials_21 ml_X1_265 gc_X1 hV.h0 hV.hk (c_s_offer hV10 hQ10 (fun j j0 j1 _ _ e => absurd e (by have := (hd10 j j0 j1).1; omega)) (by omega) (by omega) hr0.1 (by omega)) (Nat.le_of_ble_eq_true rfl) (by decide) ⟨by omega, by have := nw77 hQ10 (by omega); omega⟩ rfl (fun w21 q21 => ?_)
  obtain ⟨hV21, hG21, ⟨s21, S21, fd21, hQ21, hO21, hfa21, hfb21, -⟩, o12, o13, o14⟩ := q21
  have hZ21 := ZQ.tr hZ10 hG21
  have hV := hV21
  have hn77 := nw77 hQ10 (by omega)
  have hP0 : PDJ n (tC m h) (rdw w5 (b + 8)) (rdw w5 (b + 9)) (rdw w5 (b + 11)) (rdw w5 (b + 10)) (rdw w21 (b + 12)) (rdw w21 (b + 14)) (fun _ => 0) 0 0 := PDJ.init hr0.1 (fun i i0 i1 => by
    have t1 := hd10 i i0 i1
    refine ⟨by rw [o14]; exact t1.2, ?_⟩
    rw [o12, (hd10 _ hr0.1.1 hr0.1.2).1, t1.1]
    (repeat' split) <;> first | rfl | (exfalso; omega))
  have hS21 : SB E xo b n m h sn sm sh e w w21 := hS.zu (hZ21.wk (fun a i z => Or.inl z)) hQ21.xq
  have hS := hS21
  refine g_iconst (pc' := 25) hX dX1_findPotentials_24 rfl ?_
  refine g_istore_n_2 (pc' := 26) hX dX1_findPotentials_25 (by decide) rfl rfl ?_
  have loop : ∀ (g : Nat) (k : Int) (u : Wd) (s : Int) (S : Int → Prop) (fd : Int) (od : Int → Int) (D : Int) (x3 x4 : Nat × Int), 0 ≤ k → k ≤ n → XI E xo b u → Gr (ZQ E xo b w5) w5 u → QS E xo b n u s S fd → QO b n u S (-1) → fd ≤ 1 + 6 * k → PDJ n (tC m h) (rdw w5 (b + 8)) (rdw w5 (b + 9)) (rdw w5 (b + 11)) (rdw w5 (b + 10)) (rdw u (b + 12)) (rdw u (b + 14)) od k D → n < k + g → GG X (12 * (7 - k).toNat) (462 * (7 - k).toNat) u 26 [(1, xo), (0, r5), (0, k), x3, x4] [] := by
    intro g
    induction g with
    | zero => intro k u s S fd od D x3 x4 k0 k1 _ _ _ _ _ _ hg; exact absurd hg (by omega)
    | succ g ih =>
      intro k u s S fd od D x3 x4 k0 k1 hV hZ hS hO hfd hP hg
      have hSu : SB E xo b n m h sn sm sh e w u := hS5.zu (hZ.wk (fun a i z => Or.inl z)) hS.xq
      have hf0 := hSu.1.2.2.1.1.1.1
      refine g_iload_n (pc' := 27) hX dX1_findPotentials_26 rfl rfl ?_
      skip
      refine g_aload_n (pc' := 28) hX dX1_findPotentials_27 rfl rfl ?_
      refine gf_X1_7 (pc' := 31) hX dX1_findPotentials_28 hV.h0 hV.hk rfl ?_
      rw [hf0]
      refine g_icmp_ge (pc' := 34) (tgt := 103) hX dX1_findPotentials_31 (by decide) rfl (by omega) (by omega) (fun h31 => ?_) (fun h31 => ?_)
      · skip
        have hkn : k = n := by omega
        rw [hkn] at hP
        have hPT := hP.fin (by omega)
        have hpu := fun i i0 i1 => POT_u (i := i) hnb hC hOP hPT i0 i1
        have hpv := fun j j0 j1 => POT_v (j := j) hnb hC hOP hPT j0 j1
        have hPS : PSD n m h := POT_sound hnb hC hOP hPT
        have k8 : ∀ q, rdw u (b + 8) q = rdw w5 (b + 8) q := fun q => ZQ.kp hV5 hZ (k := 8) (by omega) (by omega) q
        have k9 : ∀ q, rdw u (b + 9) q = rdw w5 (b + 9) q := fun q => ZQ.kp hV5 hZ (k := 9) (by omega) (by omega) q
        have hAu : ∀ i j : Int, 0 ≤ i → i < n → 0 ≤ j → j < n → rdw u (b + 1 + i) j = tC m h i j := fun i j i0 i1 j0 j1 => by rw [ZQ.ck hV5 hZ (by omega)]; exact hA5 i j i0 i1 j0 j1
        have hdb : ∀ i : Int, 0 ≤ i → i < n → 0 ≤ rdw u (b + 12) i ∧ rdw u (b + 12) i ≤ 1048576 := fun i i0 i1 => (hP.2.1 i i0 i1).2.1
        have hS := hSu
        refine g_iconst (pc' := 104) hX dX1_findPotentials_103 rfl ?_
        refine g_istore_n_2 (pc' := 105) hX dX1_findPotentials_104 (by decide) rfl rfl ?_
        have loop : ∀ (f : Nat) (i : Int) (v : Wd) (x3 x4 : Nat × Int), 0 ≤ i → i ≤ n → SB E xo b n m h sn sm sh e w v → (∀ k q : Int, k ≠ 19 → rdw v (b + k) q = rdw u (b + k) q) → (∀ q : Int, 0 ≤ q → q < i → rdw v (b + 19) q = PU n m h q) → n < i + f → GG X 0 0 v 105 [(1, xo), (0, r5), (0, i), x3, x4] [] := by
          intro f
          induction f with
          | zero => intro i v x3 x4 i0 i1 hS hk h19 hf; exact absurd hf (by omega)
          | succ f ih =>
            intro i v x3 x4 i0 i1 hS hk h19 hf
            have hV := hS.1.1
            refine g_iload_n (pc' := 106) hX dX1_findPotentials_105 rfl rfl ?_
            refine g_aload_n (pc' := 107) hX dX1_findPotentials_106 rfl rfl ?_
            refine gf_X1_7 (pc' := 110) hX dX1_findPotentials_107 hV.h0 hV.hk rfl ?_
            rw [hS.1.2.2.1.1.1.1]
            refine g_icmp_ge (pc' := 113) (tgt := 145) hX dX1_findPotentials_110 (by decide) rfl (by omega) (by omega) (fun h110 => ?_) (fun h110 => ?_)
            · skip
              refine g_iconst (pc' := 146) hX dX1_findPotentials_145 rfl ?_
              refine g_istore_n_2 (pc' := 147) hX dX1_findPotentials_146 (by decide) rfl rfl ?_
              have loop : ∀ (f : Nat) (j : Int) (v : Wd) (x3 x4 : Nat × Int), 0 ≤ j → j ≤ n → SB E xo b n m h sn sm sh e w v → (∀ k q : Int, k ≠ 19 → k ≠ 20 → rdw v (b + k) q = rdw u (b + k) q) → (∀ q : Int, 0 ≤ q → q < n → rdw v (b + 19) q = PU n m h q) → (∀ q : Int, 0 ≤ q → q < j → rdw v (b + 20) q = PV n m h q) → n < j + f → GG X 0 0 v 147 [(1, xo), (0, r5), (0, j), x3, x4] [] := by
                intro f
                induction f with
                | zero => intro j v x3 x4 j0 j1 hS hk h19 h20 hf; exact absurd hf (by omega)
                | succ f ih =>
                  intro j v x3 x4 j0 j1 hS hk h19 h20 hf
                  have hV := hS.1.1
                  refine g_iload_n (pc' := 148) hX dX1_findPotentials_147 rfl rfl ?_
                  refine g_aload_n (pc' := 149) hX dX1_findPotentials_148 rfl rfl ?_
                  refine gf_X1_7 (pc' := 152) hX dX1_findPotentials_149 hV.h0 hV.hk rfl ?_
                  rw [hS.1.2.2.1.1.1.1]
                  refine g_icmp_ge (pc' := 155) (tgt := 211) hX dX1_findPotentials_152 (by decide) rfl (by omega) (by omega) (fun h152 => ?_) (fun h152 => ?_)
                  · skip
                    refine g_iload_n (pc' := 212) hX dX1_findPotentials_211 rfl rfl ?_
                    exact g_retI hX hF dX1_findPotentials_212 ⟨hans, hS, fun i j i0 i1 j0 j1 => by
                        have e1 := hk (1 + i) j (by omega) (by omega)
                        rw [show b + (1 + i) = b + 1 + i by omega] at e1
                        rw [e1]; exact hAu i j i0 i1 j0 j1, h19, fun q q0 q1 => h20 q q0 (by omega), hPS⟩
                  · skip
                    have hpj := hpv j j0 (by omega)
                    obtain ⟨Z, hZ0⟩ : ∃ Z, Z = PV n m h j := ⟨_, rfl⟩
                    rw [← hpj.1, ← hZ0] at hpj
                    obtain ⟨-, hz1, ⟨ix, ix0, ix1, hz2⟩, hz3⟩ := hpj
                    rw [← (hpu ix ix0 ix1).1] at hz2
                    have hPUx := (hpu ix ix0 ix1).1
                    have hux := hHU.ub hC.bD (by omega) ix0 (show ix < n by omega)
                    have hdx := hdb ix ix0 ix1
                    have hv00 := (hHU.2.1 0 (by omega) (by omega)).1
                    have hCx := hC ix j ix0 ix1 j0 (by omega)
                    refine g_ldc (pc' := 157) (n := 1048576) hX dX1_findPotentials_155 q565 rfl rfl ?_
                    refine g_istore_n_3 (pc' := 158) hX dX1_findPotentials_157 (by decide) rfl rfl ?_
                    refine g_iconst (pc' := 159) hX dX1_findPotentials_158 rfl ?_
                    refine g_istore_4 (pc' := 161) hX dX1_findPotentials_159 (by decide) rfl rfl ?_
                    have loopm : ∀ (f : Nat) (L i : Int), 0 ≤ i → i ≤ n → Z ≤ L → L ≤ 1048576 → (∀ q : Int, 0 ≤ q → q < i → L ≤ tC m h q j - PU n m h q) → n < i + f → GG X 0 0 v 161 [(1, xo), (0, r5), (0, j), (0, L), (0, i)] [] := by
                      intro f
                      induction f with
                      | zero => intro L i i0 i1 l0 l1 hL hf; exact absurd hf (by omega)
                      | succ f ihm =>
                        intro L i i0 i1 l0 l1 hL hf
                        refine g_iload (pc' := 163) hX dX1_findPotentials_161 rfl rfl ?_
                        refine g_aload_n (pc' := 164) hX dX1_findPotentials_163 rfl rfl ?_
                        refine gf_X1_7 (pc' := 167) hX dX1_findPotentials_164 hV.h0 hV.hk rfl ?_
                        rw [hS.1.2.2.1.1.1.1]
                        refine g_icmp_ge (pc' := 170) (tgt := 198) hX dX1_findPotentials_167 (by decide) rfl (by omega) (by omega) (fun h167 => ?_) (fun h167 => ?_)
                        · skip
                          have hLz : L = PV n m h j := by
                            have := hL ix ix0 (by omega)
                            omega
                          refine g_aload_n (pc' := 199) hX dX1_findPotentials_198 rfl rfl ?_
                          refine gf_X1_79 (pc' := 202) hX dX1_findPotentials_199 hV.h0 hV.hk rfl ?_
                          rw [hV.f 19 (by decide) (show xF 19 = 20 from rfl)]
                          refine g_iload_n (pc' := 203) hX dX1_findPotentials_202 rfl rfl ?_
                          refine g_iload_n (pc' := 204) hX dX1_findPotentials_203 rfl rfl ?_
                          refine g_iastL (pc' := 205) hX dX1_findPotentials_204 (by have := hV.hbb; omega) (hV.kk 20 (by decide) (show xK b 20 = 50 from rfl)) (hV.ln 20 (by decide) (show xL 20 = 7 from rfl)) (by omega) rfl ?_
                          refine hS.up 20 (by omega) (fun v2 hS g2 h62 => ?_)
                          refine g_iinc_2 (pc' := 208) hX dX1_findPotentials_205 (by decide) rfl rfl ?_
                          refine g_goto (tgt := 147) hX dX1_findPotentials_208 (by decide) ?_
                          exact ih (j + 1) v2 _ _ (by omega) (by omega) hS (fun k q hk19 hk20 => by rw [g2 k q, if_neg (fun z => hk20 z.1)]; exact hk k q hk19 hk20) (fun q q0 q1 => by rw [g2 19 q, if_neg (by omega)]; exact h19 q q0 q1) (fun q q0 q1 => by
                            rw [g2 20 q]
                            by_cases hq : q = j
                            · rw [if_pos ⟨rfl, hq⟩, hq]; exact hLz
                            · rw [if_neg (fun z => hq z.2)]; exact h20 q q0 (by omega)) (by omega)
                        · skip
                          have hz1i := hz1 i i0 (by omega)
                          rw [← (hpu i i0 (by omega)).1] at hz1i
                          have hPU := (hpu i i0 (by omega)).1
                          have hCi := hC i j i0 (by omega) j0 (by omega)
                          have hui := (hHU.2.2.1 i i0 (by omega)).2.2.2
                          have huj := hHU.ub hC.bD (by omega) i0 (show i < n by omega)
                          have hv0 := (hHU.2.1 0 (by omega) (by omega)).1
                          have hdi := hdb i i0 (by omega)
                          refine g_iload_n (pc' := 171) hX dX1_findPotentials_170 rfl rfl ?_
                          refine g_aload_n (pc' := 172) hX dX1_findPotentials_171 rfl rfl ?_
                          refine gf_X1_35 (pc' := 175) hX dX1_findPotentials_172 hV.h0 hV.hk rfl ?_
                          rw [hV.f 7 (by decide) (show xF 7 = 0 from rfl)]
                          refine g_iload (pc' := 177) hX dX1_findPotentials_175 rfl rfl ?_
                          refine g_aaldL (pc' := 178) hX dX1_findPotentials_177 (by have := hV.b0; omega) (by rw [hV.kk 0 (by decide) (show xK b 0 = 54 from rfl)]; decide) (hV.ln 0 (by decide) (show xL 0 = 7 from rfl)) (by omega) rfl ?_
                          rw [hV.c0 (by omega)]
                          refine g_iload_n (pc' := 179) hX dX1_findPotentials_178 rfl rfl ?_
                          skip
                          refine g_ialdL (pc' := 180) hX dX1_findPotentials_179 (by have := hV.b0; omega) (hV.ck (by omega)) (hV.cl (by omega)) (by omega) rfl ?_
                          have e1 := hk (1 + i) j (by omega) (by omega)
                          rw [show b + (1 + i) = b + 1 + i by omega] at e1
                          rw [e1, hAu i j i0 (by omega) j0 (by omega)]
                          refine g_aload_n (pc' := 181) hX dX1_findPotentials_180 rfl rfl ?_
                          refine gf_X1_76 (pc' := 184) hX dX1_findPotentials_181 hV.h0 hV.hk rfl ?_
                          rw [hV.f 18 (by decide) (show xF 18 = 19 from rfl)]
                          refine g_iload (pc' := 186) hX dX1_findPotentials_184 rfl rfl ?_
                          refine g_ialdL (pc' := 187) hX dX1_findPotentials_186 (by have := hV.b0; omega) (hV.kk 19 (by decide) (show xK b 19 = 50 from rfl)) (hV.ln 19 (by decide) (show xL 19 = 7 from rfl)) (by omega) rfl ?_
                          rw [h19 i i0 (by omega)]
                          refine g_isub (pc' := 188) hX dX1_findPotentials_187 rfl ?_
                          refine g_mmin (pc' := 191) hX dX1_findPotentials_188 q566 q211 q64 q212 (by omega) (by omega) (by omega) (Nat.le_of_ble_eq_true rfl) rfl ?_
                          refine g_istore_n_3 (pc' := 192) hX dX1_findPotentials_191 (by decide) rfl rfl ?_
                          refine g_iinc_4 (pc' := 195) hX dX1_findPotentials_192 (by decide) rfl rfl ?_
                          refine g_goto (tgt := 161) hX dX1_findPotentials_195 (by decide) ?_
                          refine ihm _ (i + 1) (by omega) (by omega) ?_ ?_ (fun q q0 q1 => ?_) (by omega)
                          · split <;> omega
                          · split <;> omega
                          · by_cases hq : q = i
                            · rw [hq]; split <;> omega
                            · have := hL q q0 (by omega)
                              split <;> omega
                    exact loopm 100 1048576 0 (by omega) (by omega) (by omega) (by omega) (fun q q0 q1 => by omega) (by omega)
              exact loop 100 0 v _ _ (by omega) (by omega) hS (fun k q hk19 _ => hk k q hk19) (fun q q0 q1 => h19 q q0 (by omega)) (fun q q0 q1 => by omega) (by omega)
            · skip
              refine g_aload_n (pc' := 114) hX dX1_findPotentials_113 rfl rfl ?_
              refine gf_X1_76 (pc' := 117) hX dX1_findPotentials_114 hV.h0 hV.hk rfl ?_
              rw [hV.f 18 (by decide) (show xF 18 = 19 from rfl)]
              refine g_iload_n (pc' := 118) hX dX1_findPotentials_117 rfl rfl ?_
              refine g_aload_n (pc' := 119) hX dX1_findPotentials_118 rfl rfl ?_
              refine gf_X1_38 (pc' := 122) hX dX1_findPotentials_119 hV.h0 hV.hk rfl ?_
              rw [hV.f 8 (by decide) (show xF 8 = 8 from rfl)]
              refine g_iload_n (pc' := 123) hX dX1_findPotentials_122 rfl rfl ?_
              refine g_ialdL (pc' := 124) hX dX1_findPotentials_123 (by have := hV.b0; omega) (hV.kk 8 (by decide) (show xK b 8 = 50 from rfl)) (hV.ln 8 (by decide) (show xL 8 = 7 from rfl)) (by omega) rfl ?_
              rw [hk 8 i (by omega), k8]
              refine g_aload_n (pc' := 125) hX dX1_findPotentials_124 rfl rfl ?_
              refine gf_X1_42 (pc' := 128) hX dX1_findPotentials_125 hV.h0 hV.hk rfl ?_
              rw [hV.f 9 (by decide) (show xF 9 = 9 from rfl)]
              refine g_iconst (pc' := 129) hX dX1_findPotentials_128 rfl ?_
              refine g_ialdL (pc' := 130) hX dX1_findPotentials_129 (by have := hV.b0; omega) (hV.kk 9 (by decide) (show xK b 9 = 50 from rfl)) (hV.ln 9 (by decide) (show xL 9 = 7 from rfl)) (by omega) rfl ?_
              rw [hk 9 0 (by omega), k9]
              refine g_iadd (pc' := 131) hX dX1_findPotentials_130 rfl ?_
              refine g_aload_n (pc' := 132) hX dX1_findPotentials_131 rfl rfl ?_
              refine gf_X1_51 (pc' := 135) hX dX1_findPotentials_132 hV.h0 hV.hk rfl ?_
              rw [hV.f 12 (by decide) (show xF 12 = 12 from rfl)]
              refine g_iload_n (pc' := 136) hX dX1_findPotentials_135 rfl rfl ?_
              refine g_ialdL (pc' := 137) hX dX1_findPotentials_136 (by have := hV.b0; omega) (hV.kk 12 (by decide) (show xK b 12 = 50 from rfl)) (hV.ln 12 (by decide) (show xL 12 = 7 from rfl)) (by omega) rfl ?_
              rw [hk 12 i (by omega)]
              refine g_isub (pc' := 138) hX dX1_findPotentials_137 rfl ?_
              refine g_iastL (pc' := 139) hX dX1_findPotentials_138 (by have := hV.hbb; omega) (hV.kk 19 (by decide) (show xK b 19 = 50 from rfl)) (hV.ln 19 (by decide) (show xL 19 = 7 from rfl)) (by omega) rfl ?_
              refine hS.up 19 (by omega) (fun v2 hS g2 h62 => ?_)
              refine g_iinc_2 (pc' := 142) hX dX1_findPotentials_139 (by decide) rfl rfl ?_
              refine g_goto (tgt := 105) hX dX1_findPotentials_142 (by decide) ?_
              exact ih (i + 1) v2 _ _ (by omega) (by omega) hS (fun k q hk19 => by rw [g2 k q, if_neg (fun z => hk19 z.1)]; exact hk k q hk19) (fun q q0 q1 => by
                rw [g2 19 q]
                by_cases hq : q = i
                · rw [if_pos ⟨rfl, hq⟩, hq]; exact (hpu i i0 (by omega)).1.symm
                · rw [if_neg (fun z => hq z.2)]; exact h19 q q0 (by omega)) (by omega)
        exact GG_less (loop 100 0 u _ _ (by omega) (by omega) hS (fun _ _ _ => rfl) (fun q q0 q1 => by omega) (by omega)) (by omega) (by omega)
      · skip
        obtain ⟨i0, e1, e2, e3, e4⟩ := hP.opn hOP (by omega) ⟨k0, by omega⟩ (fun i j i0 i1 j0 j1 => (hub i j i0 i1 j0 j1).2)
        refine g_aload_n (pc' := 35) hX dX1_findPotentials_34 rfl rfl ?_
        refine gV0I0 (pc' := 38) hX dX1_findPotentials_35 ml_X1_274 gc_X1 hV.h0 hV.hk (c_s_settleNext hV hS hO (by omega) ⟨i0, e1, e2, e3, e4⟩) (Nat.le_of_ble_eq_true rfl) (by decide) rfl (fun r35 w35 q35 => ?_)
        obtain ⟨y, hyr⟩ : ∃ y, y = r35 := ⟨_, rfl⟩
        rw [← hyr] at q35 ⊢
        obtain ⟨⟨hy, hy0, hyl, hym⟩, hV3, hF3, ⟨s3, S3, hS3, hO3⟩, p12, -, p14⟩ := q35
        have hZ3 := ZQ.tr hZ hF3.gr
        have hdy : 0 ≤ rdw w35 (b + 12) y ∧ rdw w35 (b + 12) y ≤ 80000 := by
          rw [p12]
          refine ⟨(hP.2.1 y hy.1 hy.2).2.1.1, ?_⟩
          by_cases hk : k = 0
          · rw [hP.q0 hr0.1 hk hy hym, hP.1]; omega
          · exact hP.bd hOP (by omega) (by omega) (fun i j i0 i1 j0 j1 => (hub i j i0 i1 j0 j1).2) hy.1 hy.2
        have hsy : rdw w35 (b + 14) y = 1 := by rw [p14, if_pos rfl]
        refine g_istore_n_3 (pc' := 39) hX dX1_findPotentials_38 (by decide) rfl rfl ?_
        refine g_iconst (pc' := 40) hX dX1_findPotentials_39 rfl ?_
        refine g_istore_4 (pc' := 42) hX dX1_findPotentials_40 (by decide) rfl rfl ?_
        have loop2 : ∀ (f : Nat) (j : Int) (v : Wd) (s : Int) (S : Int → Prop) (fd2 : Int), 1 ≤ j → j ≤ n → XI E xo b v → Gr (ZQ E xo b w5) w5 v → QS E xo b n v s S fd2 → QO b n v S (-1) → fd2 ≤ 6 * k + j → (∀ i : Int, 0 ≤ i → i < n → rdw v (b + 12) i = (if rdw w35 (b + 14) i = 0 ∧ (1 ≤ rdw w5 (b + 11) i ∧ rdw w5 (b + 11) i < j) ∧ rdw w35 (b + 12) y + (tC m h y (rdw w5 (b + 11) i) - rdw w5 (b + 8) y - rdw w5 (b + 9) (rdw w5 (b + 11) i)) < rdw w35 (b + 12) i then rdw w35 (b + 12) y + (tC m h y (rdw w5 (b + 11) i) - rdw w5 (b + 8) y - rdw w5 (b + 9) (rdw w5 (b + 11) i)) else rdw w35 (b + 12) i)) → (∀ i, rdw v (b + 14) i = rdw w35 (b + 14) i) → n < j + f → GG X (2 * (7 - j).toNat + 12 * (6 - k).toNat) (77 * (7 - j).toNat + 462 * (6 - k).toNat) v 42 [(1, xo), (0, r5), (0, k), (0, y), (0, j)] [] := by
          intro f
          induction f with
          | zero => intro j v s S fd2 j0 j1 _ _ _ _ _ _ _ hf; exact absurd hf (by omega)
          | succ f ih2 =>
            intro j v s S fd2 j0 j1 hV hZ hS hO hfd2 h12 h14 hf
            have hSv : SB E xo b n m h sn sm sh e w v := hS5.zu (hZ.wk (fun a i z => Or.inl z)) hS.xq
            have hf0 := hSv.1.2.2.1.1.1.1
            refine g_iload (pc' := 44) hX dX1_findPotentials_42 rfl rfl ?_
            refine g_aload_n (pc' := 45) hX dX1_findPotentials_44 rfl rfl ?_
            refine gf_X1_7 (pc' := 48) hX dX1_findPotentials_45 hV.h0 hV.hk rfl ?_
            rw [hf0]
            refine g_icmp_ge (pc' := 51) (tgt := 97) hX dX1_findPotentials_48 (by decide) rfl (by omega) (by omega) (fun h48 => ?_) (fun h48 => ?_)
            · skip
              have hjn : j = n := by omega
              refine g_iinc_2 (pc' := 100) hX dX1_findPotentials_97 (by decide) rfl rfl ?_
              refine g_goto (tgt := 26) hX dX1_findPotentials_100 (by decide) ?_
              exact GG_less (ih (k + 1) v s S fd2 _ _ _ _ (by omega) (by omega) hV hZ hS hO (by omega) (hP.step hOP (by omega) k0 ⟨hy, hy0, hyl⟩ hym (fun i => by rw [h14]; exact p14 i) (fun i i0 i1 => by
                have t1 := (hOP.2.1 i i0 (by omega)).1
                rw [h14, h12 i i0 i1, hjn, p12 y, p12 i]
                (repeat' split) <;> first | rfl | (exfalso; omega)) ) (by omega)) (by omega) (by omega)
            · skip
              have hrj := hrw j (by omega) (by omega)
              have k10 : rdw v (b + 10) j = rdw w5 (b + 10) j := ZQ.kp hV5 hZ (k := 10) (by omega) (by omega) j
              have hstj := (hS.2.2.2.2 _ hrj.1.1 hrj.1.2).1
              have hvy : rdw v (b + 12) y = rdw w35 (b + 12) y := by rw [h12 y hy.1 hy.2, if_neg (by omega)]
              have hej := hub y j hy.1 hy.2 (by omega) (by omega)
              have hrin : ∀ i : Int, 0 ≤ i → i < n → i ≠ rdw w5 (b + 10) j → rdw w5 (b + 11) i ≠ j := fun i i0 i1 hi z => hi (by rw [← z]; exact (hOP.2.1 i i0 (by omega)).2.1.symm)
              refine g_aload_n (pc' := 52) hX dX1_findPotentials_51 rfl rfl ?_
              refine gf_X1_57 (pc' := 55) hX dX1_findPotentials_52 hV.h0 hV.hk rfl ?_
              rw [hV.f 14 (by decide) (show xF 14 = 14 from rfl)]
              refine g_aload_n (pc' := 56) hX dX1_findPotentials_55 rfl rfl ?_
              refine gf_X1_45 (pc' := 59) hX dX1_findPotentials_56 hV.h0 hV.hk rfl ?_
              rw [hV.f 10 (by decide) (show xF 10 = 10 from rfl)]
              refine g_iload (pc' := 61) hX dX1_findPotentials_59 rfl rfl ?_
              refine g_ialdL (pc' := 62) hX dX1_findPotentials_61 (by have := hV.b0; omega) (hV.kk 10 (by decide) (show xK b 10 = 50 from rfl)) (hV.ln 10 (by decide) (show xL 10 = 7 from rfl)) (by omega) rfl ?_
              rw [k10]
              refine g_zaldL (pc' := 63) hX dX1_findPotentials_62 (by have := hV.b0; omega) (hV.kk 14 (by decide) (show xK b 14 = 51 from rfl)) (hV.ln 14 (by decide) (show xL 14 = 7 from rfl)) (by omega) rfl ?_
              refine g_if_ne (pc' := 66) (tgt := 91) hX dX1_findPotentials_63 (by decide) rfl (by omega) (fun h63 => ?_) (fun h63 => ?_)
              · skip
                have hs1 : rdw w35 (b + 14) (rdw w5 (b + 10) j) ≠ 0 := by rw [← h14]; omega
                have n12 : ∀ i : Int, 0 ≤ i → i < n → rdw v (b + 12) i = (if rdw w35 (b + 14) i = 0 ∧ (1 ≤ rdw w5 (b + 11) i ∧ rdw w5 (b + 11) i < j + 1) ∧ rdw w35 (b + 12) y + (tC m h y (rdw w5 (b + 11) i) - rdw w5 (b + 8) y - rdw w5 (b + 9) (rdw w5 (b + 11) i)) < rdw w35 (b + 12) i then rdw w35 (b + 12) y + (tC m h y (rdw w5 (b + 11) i) - rdw w5 (b + 8) y - rdw w5 (b + 9) (rdw w5 (b + 11) i)) else rdw w35 (b + 12) i) := fun i i0 i1 => by
                  rw [h12 i i0 i1]
                  by_cases hi : i = rdw w5 (b + 10) j
                  · rw [if_neg (fun z => hs1 (by rw [← hi]; exact z.1)), if_neg (fun z => hs1 (by rw [← hi]; exact z.1))]
                  · have := hrin i i0 i1 hi
                    (repeat' split) <;> first | rfl | (exfalso; omega)
                refine g_iinc_4 (pc' := 94) hX dX1_findPotentials_91 (by decide) rfl rfl ?_
                refine g_goto (tgt := 42) hX dX1_findPotentials_94 (by decide) ?_
                first
                  | exact GG_less (ih2 (j + 1) w88 s4 S4 fd4 (by omega) (by omega) hV4 hZ4 hS4 hO4 (by omega) n12 n14 (by omega)) (by omega) (by omega)
                  | exact GG_less (ih2 (j + 1) v s S fd2 (by omega) (by omega) hV hZ hS hO (by omega) n12 h14 (by omega)) (by omega) (by omega)
              · skip
                have hs0 : rdw w35 (b + 14) (rdw w5 (b + 10) j) = 0 := by rw [← h14]; omega
                refine g_aload_n (pc' := 67) hX dX1_findPotentials_66 rfl rfl ?_
                refine g_aload_n (pc' := 68) hX dX1_findPotentials_67 rfl rfl ?_
                refine gf_X1_51 (pc' := 71) hX dX1_findPotentials_68 hV.h0 hV.hk rfl ?_
                rw [hV.f 12 (by decide) (show xF 12 = 12 from rfl)]
                refine g_iload_n (pc' := 72) hX dX1_findPotentials_71 rfl rfl ?_
                refine g_ialdL (pc' := 73) hX dX1_findPotentials_72 (by have := hV.b0; omega) (hV.kk 12 (by decide) (show xK b 12 = 50 from rfl)) (hV.ln 12 (by decide) (show xL 12 = 7 from rfl)) (by omega) rfl ?_
                rw [hvy]
                refine g_aload_n (pc' := 74) hX dX1_findPotentials_73 rfl rfl ?_
                refine g_iload_n (pc' := 75) hX dX1_findPotentials_74 rfl rfl ?_
                refine g_iload (pc' := 77) hX dX1_findPotentials_75 rfl rfl ?_
                refine gV2E0 (pc' := 80) hX dX1_findPotentials_77 ml_X1_262 gc_X1 hV.h0 hV.hk (c_s_reducedHere hV (by omega) (by omega)) (Nat.le_of_ble_eq_true rfl) (by decide) rfl ?_
                rw [FF v hZ y j hy.1 hy.2 (by omega) (by omega)]
                refine g_iadd (pc' := 81) hX dX1_findPotentials_80 rfl ?_
                refine g_aload_n (pc' := 82) hX dX1_findPotentials_81 rfl rfl ?_
                refine gf_X1_45 (pc' := 85) hX dX1_findPotentials_82 hV.h0 hV.hk rfl ?_
                rw [hV.f 10 (by decide) (show xF 10 = 10 from rfl)]
                refine g_iload (pc' := 87) hX dX1_findPotentials_85 rfl rfl ?_
                refine g_ialdL (pc' := 88) hX dX1_findPotentials_87 (by have := hV.b0; omega) (hV.kk 10 (by decide) (show xK b 10 = 50 from rfl)) (hV.ln 10 (by decide) (show xL 10 = 7 from rfl)) (by omega) rfl ?_
                rw [k10]
                refine gV2U (pc' := 91) hX dX1_findPotentials_88 ml_X1_265 gc_X1 hV.h0 hV.hk (c_s_offer hV hS hO (by omega) (by omega) hrj.1 (by omega)) (Nat.le_of_ble_eq_true rfl) (by decide) ⟨by omega, by have := nw77 hS (by have := hS.2.2.1; omega); omega⟩ rfl (fun w88 q88 => ?_)
                have hn77 := nw77 hS (by have := hS.2.2.1; omega)
                obtain ⟨hV4, hG4, ⟨s4, S4, fd4, hS4, hO4, hfa4, hfb4, -⟩, o12, -, o14⟩ := q88
                have hZ4 := ZQ.tr hZ hG4
                have n14 : ∀ i, rdw w88 (b + 14) i = rdw w35 (b + 14) i := fun i => by rw [o14, h14]
                have hvr : rdw v (b + 12) (rdw w5 (b + 10) j) = rdw w35 (b + 12) (rdw w5 (b + 10) j) := by rw [h12 _ hrj.1.1 hrj.1.2, hrj.2, if_neg (by omega)]
                have n12 : ∀ i : Int, 0 ≤ i → i < n → rdw w88 (b + 12) i = (if rdw w35 (b + 14) i = 0 ∧ (1 ≤ rdw w5 (b + 11) i ∧ rdw w5 (b + 11) i < j + 1) ∧ rdw w35 (b + 12) y + (tC m h y (rdw w5 (b + 11) i) - rdw w5 (b + 8) y - rdw w5 (b + 9) (rdw w5 (b + 11) i)) < rdw w35 (b + 12) i then rdw w35 (b + 12) y + (tC m h y (rdw w5 (b + 11) i) - rdw w5 (b + 8) y - rdw w5 (b + 9) (rdw w5 (b + 11) i)) else rdw w35 (b + 12) i) := fun i i0 i1 => by
                  rw [o12, hvr]
                  by_cases hi : i = rdw w5 (b + 10) j
                  · rw [hi, hvr, hrj.2]
                    (repeat' split) <;> first | rfl | (exfalso; omega)
                  · have := hrin i i0 i1 hi
                    rw [if_neg (fun z => hi z.1), h12 i i0 i1]
                    (repeat' split) <;> first | rfl | (exfalso; omega)
                refine g_iinc_4 (pc' := 94) hX dX1_findPotentials_91 (by decide) rfl rfl ?_
                refine g_goto (tgt := 42) hX dX1_findPotentials_94 (by decide) ?_
                first
                  | exact GG_less (ih2 (j + 1) w88 s4 S4 fd4 (by omega) (by omega) hV4 hZ4 hS4 hO4 (by omega) n12 n14 (by omega)) (by omega) (by omega)
                  | exact GG_less (ih2 (j + 1) v s S fd2 (by omega) (by omega) hV hZ hS hO (by omega) n12 h14 (by omega)) (by omega) (by omega)
        exact GG_less (loop2 100 1 w35 s3 S3 fd (by omega) (by omega) hV3 hZ3 hS3 hO3 (by omega) (fun i i0 i1 => by rw [if_neg (by omega)]) (fun i => rfl) (by omega)) (by omega) (by omega)
  exact GG_less (loop 100 0 w21 s21 S21 fd21 _ 0 _ _ (by omega) (by omega) hV21 hZ21 hQ21 hO21 (by omega) hP0 (by omega)) (by omega) (by omega)

theorem c_o_rowPotential (hH : XX E xo b n m h sn sm sh e w) (br : -2147483648 ≤ r ∧ r ≤ 2147483647)  : Call E mX1_rowPotential 13 773 7972 [vR xo, vI r] w (qC (if 0 ≤ r ∧ r ≤ n - 1 then 0 else 1) (PU n m h r) (fun w' => XX E xo b n m h sn sm sh e w' ∧ Gr (fun a _ => ZX xo b w a) w w') w) := by
  refine call_of (av := [(1, xo), (0, r)]) (by decide +kernel) rfl (Nat.le_of_ble_eq_true rfl) ?_
  intro X hX hF hname
  show GG X 773 7972 w 0 [(1, xo), (0, r)] []
  have hS := SB.rf hH
  have hV := hH.1
  have hn := hH.2.2.1.1.2.1
  have hnb : 1 ≤ n ∧ n ≤ 7 := by omega
  have hC := hH.2.2.1.bCn
  refine g_aload_n (pc' := 1) hX dX1_rowPotential_0 rfl rfl ?_
  refine g_iload_n (pc' := 2) hX dX1_rowPotential_1 rfl rfl ?_
  refine gV1E0 (pc' := 5) hX dX1_rowPotential_2 ml_X1_169 gc_X1 hV.h0 hV.hk (c_k_isRow hV hS.1.2.2.1.1.1.1 (by omega) (by omega)) (Nat.le_of_ble_eq_true rfl) (by decide) rfl ?_
  refine gS1UX (pc' := 8) hX dX1_rowPotential_5 ml_X1_176 (c_k_needPlace (by omega)) (Nat.le_of_ble_eq_true rfl) (by decide) ⟨by omega, by omega⟩ rfl (fun w5 q5 => ?_) (fun k2 w2 hk0 hq => by
    obtain ⟨rfl, hz5, hG5⟩ := hq
    exact g_outX hX hF hk0 ⟨by (repeat' split) <;> omega, hG5⟩)
  obtain ⟨hz5, hw5⟩ := q5
  rw [hw5]
  refine g_aload_n (pc' := 9) hX dX1_rowPotential_8 rfl rfl ?_
  refine gV0I (pc' := 12) hX dX1_rowPotential_9 ml_X1_295 gc_X1 hV.h0 hV.hk (c_s_findPotentials hS.1) (Nat.le_of_ble_eq_true rfl) (by decide) ⟨by omega, by omega⟩ rfl (fun r9 w9 q9 => ?_)
  obtain ⟨-, hS9, hA9, h19, h20, hPS⟩ := q9
  have hS := hS.tr hS9
  have hV := hS.1.1
  have hans := h19 r (by omega) (by omega)
  refine g_pop (pc' := 13) hX dX1_rowPotential_12 (vI_cat _) rfl ?_
  refine g_aload_n (pc' := 14) hX dX1_rowPotential_13 rfl rfl ?_
  refine gf_X1_76 (pc' := 17) hX dX1_rowPotential_14 hV.h0 hV.hk rfl ?_
  rw [hV.f 18 (by decide) (show xF 18 = 19 from rfl)]
  refine g_iload_n (pc' := 18) hX dX1_rowPotential_17 rfl rfl ?_
  refine g_ialdL (pc' := 19) hX dX1_rowPotential_18 (by have := hV.b0; omega) (hV.kk 19 (by decide) (show xK b 19 = 50 from rfl)) (hV.ln 19 (by decide) (show xL 19 = 7 from rfl)) (by omega) rfl ?_
  exact g_retIX hX hF dX1_rowPotential_19 ⟨by (repeat' split) <;> omega, hans, hS.1, hS.gx hH.1⟩

theorem c_o_columnPotential (hH : XX E xo b n m h sn sm sh e w) (br : -2147483648 ≤ r ∧ r ≤ 2147483647)  : Call E mX1_columnPotential 13 773 7972 [vR xo, vI r] w (qC (if 0 ≤ r ∧ r ≤ n - 1 then 0 else 1) (PV n m h r) (fun w' => XX E xo b n m h sn sm sh e w' ∧ Gr (fun a _ => ZX xo b w a) w w') w) := by
  refine call_of (av := [(1, xo), (0, r)]) (by decide +kernel) rfl (Nat.le_of_ble_eq_true rfl) ?_
  intro X hX hF hname
  show GG X 773 7972 w 0 [(1, xo), (0, r)] []
  have hS := SB.rf hH
  have hV := hH.1
  have hn := hH.2.2.1.1.2.1
  have hnb : 1 ≤ n ∧ n ≤ 7 := by omega
  have hC := hH.2.2.1.bCn
  refine g_aload_n (pc' := 1) hX dX1_columnPotential_0 rfl rfl ?_
  refine g_iload_n (pc' := 2) hX dX1_columnPotential_1 rfl rfl ?_
  refine gV1E0 (pc' := 5) hX dX1_columnPotential_2 ml_X1_169 gc_X1 hV.h0 hV.hk (c_k_isRow hV hS.1.2.2.1.1.1.1 (by omega) (by omega)) (Nat.le_of_ble_eq_true rfl) (by decide) rfl ?_
  refine gS1UX (pc' := 8) hX dX1_columnPotential_5 ml_X1_176 (c_k_needPlace (by omega)) (Nat.le_of_ble_eq_true rfl) (by decide) ⟨by omega, by omega⟩ rfl (fun w5 q5 => ?_) (fun k2 w2 hk0 hq => by
    obtain ⟨rfl, hz5, hG5⟩ := hq
    exact g_outX hX hF hk0 ⟨by (repeat' split) <;> omega, hG5⟩)
  obtain ⟨hz5, hw5⟩ := q5
  rw [hw5]
  refine g_aload_n (pc' := 9) hX dX1_columnPotential_8 rfl rfl ?_
  refine gV0I (pc' := 12) hX dX1_columnPotential_9 ml_X1_295 gc_X1 hV.h0 hV.hk (c_s_findPotentials hS.1) (Nat.le_of_ble_eq_true rfl) (by decide) ⟨by omega, by omega⟩ rfl (fun r9 w9 q9 => ?_)
  obtain ⟨-, hS9, hA9, h19, h20, hPS⟩ := q9
  have hS := hS.tr hS9
  have hV := hS.1.1
  have hans := h20 r (by omega) (by omega)
  refine g_pop (pc' := 13) hX dX1_columnPotential_12 (vI_cat _) rfl ?_
  refine g_aload_n (pc' := 14) hX dX1_columnPotential_13 rfl rfl ?_
  refine gf_X1_79 (pc' := 17) hX dX1_columnPotential_14 hV.h0 hV.hk rfl ?_
  rw [hV.f 19 (by decide) (show xF 19 = 20 from rfl)]
  refine g_iload_n (pc' := 18) hX dX1_columnPotential_17 rfl rfl ?_
  refine g_ialdL (pc' := 19) hX dX1_columnPotential_18 (by have := hV.b0; omega) (hV.kk 20 (by decide) (show xK b 20 = 50 from rfl)) (hV.ln 20 (by decide) (show xL 20 = 7 from rfl)) (by omega) rfl ?_
  exact g_retIX hX hF dX1_columnPotential_19 ⟨by (repeat' split) <;> omega, hans, hS.1, hS.gx hH.1⟩

theorem c_o_reducedCost (hH : XX E xo b n m h sn sm sh e w) (br : -2147483648 ≤ r ∧ r ≤ 2147483647) (bc : -2147483648 ≤ c ∧ c ≤ 2147483647)  : Call E mX1_reducedCost 13 773 7972 [vR xo, vI r, vI c] w (qC (if 0 ≤ r ∧ r ≤ n - 1 ∧ 0 ≤ c ∧ c ≤ n - 1 then 0 else 1) (tC m h r c - PU n m h r - PV n m h c) (fun w' => XX E xo b n m h sn sm sh e w' ∧ Gr (fun a _ => ZX xo b w a) w w') w) := by
  refine call_of (av := [(1, xo), (0, r), (0, c)]) (by decide +kernel) rfl (Nat.le_of_ble_eq_true rfl) ?_
  intro X hX hF hname
  show GG X 773 7972 w 0 [(1, xo), (0, r), (0, c)] []
  have hS := SB.rf hH
  have hV := hH.1
  have hn := hH.2.2.1.1.2.1
  have hnb : 1 ≤ n ∧ n ≤ 7 := by omega
  have hC := hH.2.2.1.bCn
  refine g_aload_n (pc' := 1) hX dX1_reducedCost_0 rfl rfl ?_
  refine g_iload_n (pc' := 2) hX dX1_reducedCost_1 rfl rfl ?_
  refine gV1E0 (pc' := 5) hX dX1_reducedCost_2 ml_X1_169 gc_X1 hV.h0 hV.hk (c_k_isRow hV hS.1.2.2.1.1.1.1 (by omega) (by omega)) (Nat.le_of_ble_eq_true rfl) (by decide) rfl ?_
  refine g_if_eq (pc' := 8) (tgt := 20) hX dX1_reducedCost_5 (by decide) rfl (by omega) (fun h5 => ?_) (fun h5 => ?_)
  · skip
    refine g_iconst (pc' := 21) hX dX1_reducedCost_20 rfl ?_
    refine gS1UX (pc' := 24) hX dX1_reducedCost_21 ml_X1_176 (c_k_needPlace (by omega)) (Nat.le_of_ble_eq_true rfl) (by decide) ⟨by omega, by omega⟩ rfl (fun w2 q => absurd q.1 (by decide)) (fun k2 w2 hk0 hq => ?_)
    obtain ⟨rfl, hz21, hG21⟩ := hq
    exact g_outX hX hF hk0 ⟨by (repeat' split) <;> omega, hG21⟩
  · skip
    refine g_aload_n (pc' := 9) hX dX1_reducedCost_8 rfl rfl ?_
    refine g_iload_n (pc' := 10) hX dX1_reducedCost_9 rfl rfl ?_
    refine gV1E0 (pc' := 13) hX dX1_reducedCost_10 ml_X1_169 gc_X1 hV.h0 hV.hk (c_k_isRow hV hS.1.2.2.1.1.1.1 (by omega) (by omega)) (Nat.le_of_ble_eq_true rfl) (by decide) rfl ?_
    refine g_if_eq (pc' := 16) (tgt := 20) hX dX1_reducedCost_13 (by decide) rfl (by omega) (fun h13 => ?_) (fun h13 => ?_)
    · skip
      refine g_iconst (pc' := 21) hX dX1_reducedCost_20 rfl ?_
      refine gS1UX (pc' := 24) hX dX1_reducedCost_21 ml_X1_176 (c_k_needPlace (by omega)) (Nat.le_of_ble_eq_true rfl) (by decide) ⟨by omega, by omega⟩ rfl (fun w2 q => absurd q.1 (by decide)) (fun k2 w2 hk0 hq => ?_)
      obtain ⟨rfl, hz21, hG21⟩ := hq
      exact g_outX hX hF hk0 ⟨by (repeat' split) <;> omega, hG21⟩
    · skip
      refine g_iconst (pc' := 17) hX dX1_reducedCost_16 rfl ?_
      refine g_goto (tgt := 21) hX dX1_reducedCost_17 (by decide) ?_
      refine gS1UX (pc' := 24) hX dX1_reducedCost_21 ml_X1_176 (c_k_needPlace (by omega)) (Nat.le_of_ble_eq_true rfl) (by decide) ⟨by omega, by omega⟩ rfl (fun w21 q21 => ?_) (fun k2 w2 hk0 hq => absurd hq.2.1 (by decide))
      obtain ⟨-, hw21⟩ := q21
      rw [hw21]
      refine g_aload_n (pc' := 25) hX dX1_reducedCost_24 rfl rfl ?_
      refine gV0I (pc' := 28) hX dX1_reducedCost_25 ml_X1_295 gc_X1 hV.h0 hV.hk (c_s_findPotentials hS.1) (Nat.le_of_ble_eq_true rfl) (by decide) ⟨by omega, by omega⟩ rfl (fun r25 w25 q25 => ?_)
      obtain ⟨-, hS9, hA9, h19, h20, hPS⟩ := q25
      have hS := hS.tr hS9
      have hV := hS.1.1
      refine g_pop (pc' := 29) hX dX1_reducedCost_28 (vI_cat _) rfl ?_
      refine g_aload_n (pc' := 30) hX dX1_reducedCost_29 rfl rfl ?_
      refine g_iload_n (pc' := 31) hX dX1_reducedCost_30 rfl rfl ?_
      refine g_iload_n (pc' := 32) hX dX1_reducedCost_31 rfl rfl ?_
      refine gV2E0 (pc' := 35) hX dX1_reducedCost_32 ml_X1_204 gc_X1 hV.h0 hV.hk (c_k_costHere hV hS.1.2.2.1 (by omega) (by omega)) (Nat.le_of_ble_eq_true rfl) (by decide) rfl ?_
      refine g_aload_n (pc' := 36) hX dX1_reducedCost_35 rfl rfl ?_
      refine gf_X1_76 (pc' := 39) hX dX1_reducedCost_36 hV.h0 hV.hk rfl ?_
      rw [hV.f 18 (by decide) (show xF 18 = 19 from rfl)]
      refine g_iload_n (pc' := 40) hX dX1_reducedCost_39 rfl rfl ?_
      refine g_ialdL (pc' := 41) hX dX1_reducedCost_40 (by have := hV.b0; omega) (hV.kk 19 (by decide) (show xK b 19 = 50 from rfl)) (hV.ln 19 (by decide) (show xL 19 = 7 from rfl)) (by omega) rfl ?_
      rw [h19 r (by omega) (by omega)]
      refine g_isub (pc' := 42) hX dX1_reducedCost_41 rfl ?_
      refine g_aload_n (pc' := 43) hX dX1_reducedCost_42 rfl rfl ?_
      refine gf_X1_79 (pc' := 46) hX dX1_reducedCost_43 hV.h0 hV.hk rfl ?_
      rw [hV.f 19 (by decide) (show xF 19 = 20 from rfl)]
      refine g_iload_n (pc' := 47) hX dX1_reducedCost_46 rfl rfl ?_
      refine g_ialdL (pc' := 48) hX dX1_reducedCost_47 (by have := hV.b0; omega) (hV.kk 20 (by decide) (show xK b 20 = 50 from rfl)) (hV.ln 20 (by decide) (show xL 20 = 7 from rfl)) (by omega) rfl ?_
      rw [h20 c (by omega) (by omega)]
      refine g_isub (pc' := 49) hX dX1_reducedCost_48 rfl ?_
      exact g_retIX hX hF dX1_reducedCost_49 ⟨by (repeat' split) <;> omega, rfl, hS.1, hS.gx hH.1⟩

end S9S
