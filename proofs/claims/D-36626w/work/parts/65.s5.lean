/-! THE SOLVER: solve (by gen/spec_s5.py) -/
set_option maxRecDepth 100000
set_option maxHeartbeats 8000000
section S5S
variable {X : Cx} {bc bs pc : Nat} {lv : List (Nat × Int)} {st : List Value} {E : Ev} {w w0 u u' : Wd} {P : Int → Int → Prop} {T r c n m sn sm l i j k v a z xo b it x y sz s fd far q row base : Int} {h h' sh C C0 : Int → Int → Int} {f g : Int → Int} {e : En} {S : Int → Prop}
theorem sm_i (hj : 0 ≤ j) : sm' (j + 1).toNat f = sm' j.toNat f + f j := by
  rw [show (j + 1).toNat = j.toNat + 1 by omega]
  show sm' j.toNat f + f (j.toNat : Int) = _
  rw [Int.toNat_of_nonneg hj]
theorem HUN.zero {u v co ro : Int → Int} (hv : ∀ j : Int, 0 ≤ j → j < n → v j = 0 ∧ ro j = -1) : HUN n 0 C u v co ro := by
  refine ⟨fun i j i0 i1 => by omega, fun j j0 j1 => by have := hv j j0 j1; exact ⟨by omega, fun _ => this.1⟩, fun i i0 i1 => by omega, fun j j0 j1 => Or.inl (hv j j0 j1).2, ?_⟩
  have h1 : sm' n.toNat (ndI ro) = sm' n.toNat (fun _ => 0) := sm_cg (fun i i0 i1 => if_pos (hv i i0 (by omega)).2)
  rw [h1, sm_k]
  omega
theorem XX.zw {w' : Wd} (H : XX E xo b n m h sn sm sh e w) (hG : Gr (ZW E xo b w) w w') (hQ' : XQ E b w') : XX E xo b n m h sn sm sh e w' := by
  obtain ⟨hX, hO, hT, hQ, hE⟩ := H
  have hxb := hX.1.2.1
  have hb0 := hX.b0
  have zk : ∀ a i (c : Nat), kdw w a = c → c ≠ 1 → (c < 9 ∧ c ≠ 5 ∨ c = pk b) → ¬ ZW E xo b w a i := fun a i c hc h1 h2 z => by
    rcases z with z | z | z
    · have := hX.hk; rw [← z.1, hc] at this; omega
    · have h3 := hX.2.1 (a - b) (by omega) (by omega)
      rw [show b + (a - b) = a by omega, hc] at h3
      unfold xK qk pk at h3
      unfold pk at h2
      (repeat' split at h3) <;> omega
    · rw [z.1] at hc
      unfold qk at hc
      unfold pk at h2
      omega
  have nz : ∀ k i : Int, (k = 0 ∨ (21 ≤ k ∧ k ≤ 31)) → ¬ ZW E xo b w (b + k) i := fun k i hk z => by
    rcases z with z | z | z
    · omega
    · omega
    · exact hX.kq (by omega) (by omega) z.1
  refine ⟨hX.gr hG (fun i z => ?_) (fun i z => nz 0 i (Or.inl rfl) (by rw [Int.add_zero]; exact z)) (fun i => nz 24 i (by omega)), hO.gr hG (fun a i z => ZW.lo hX z), hT.gr hX hO hG (fun a i z => ⟨ZW.lo hX z, Or.inl ?_⟩) (fun i z => ?_), hQ', hE.gr hX hG (fun i i0 i1 z => ?_) (fun i => nz 21 i (by omega)) (fun a i hk => zk a i _ hk (by unfold pk; omega) (Or.inr rfl)) (fun a i hk => zk a i _ hk (by omega) (Or.inl (by omega))) (fun k i k0 k1 => nz k i (by omega))⟩
  · rcases z with z | z | z
    · omega
    · omega
    · have := hX.hk; rw [this] at z; unfold qk at z; omega
  · rcases z with z | z | z
    · exact Or.inl z.1
    · exact Or.inr (Or.inl (by omega))
    · exact Or.inr (Or.inr (Or.inl z.1))
  · rcases z with z | z | z
    · omega
    · omega
    · have := hX.hk; rw [this] at z; unfold qk at z; omega
  · rcases z with z | z | z
    · omega
    · omega
    · have := hX.hk; rw [this] at z; unfold qk at z; omega
theorem c_s_solve (hX0 : XI E xo b w) (hQ : XQ E b w) (h6w : rdw w xo 6 = n) (hn : 1 ≤ n ∧ n ≤ 7) (hA : ∀ i j : Int, 0 ≤ i → i < n → 0 ≤ j → j < n → rdw w (b + 1 + i) j = C i j) (hC : bD C n) : Call E mX1_solve 11 686 4655 [vR xo] w (qI (fun r w' => XI E xo b w' ∧ Gr (ZU E xo b w) w w' ∧ XQ E b w' ∧ OPT n.toNat C (rdw w' (b + 8)) (rdw w' (b + 9)) (rdw w' (b + 11)) (rdw w' (b + 10)) ∧ r = sm' n.toNat (rdw w' (b + 8)) + sm' n.toNat (rdw w' (b + 9)) ∧ HUN n n C (rdw w' (b + 8)) (rdw w' (b + 9)) (rdw w' (b + 11)) (rdw w' (b + 10)))) := by
  refine call_of (av := [(1, xo)]) (by decide +kernel) rfl (Nat.le_of_ble_eq_true rfl) ?_
  intro X hX hF hname
  show GG X 686 4655 w 0 [(1, xo), (9, 0), (9, 0)] []
  have hV := hX0
  have h6 := h6w
  refine g_iconst (pc' := 1) hX dX1_solve_0 rfl ?_
  refine g_istore_n_1 (pc' := 2) hX dX1_solve_1 (by decide) rfl rfl ?_
  have loop : ∀ (f : Nat) (j : Int) (u : Wd), 0 ≤ j → j ≤ n → XI E xo b u → Gr (ZU E xo b w) w u → XQ E b u → (∀ q : Int, 0 ≤ q → q < j → rdw u (b + 9) q = 0 ∧ rdw u (b + 10) q = -1) → n < j + f → GG X 686 4655 u 2 [(1, xo), (0, j), (9, 0)] [] := by
    intro f
    induction f with
    | zero => intro j u j0 j1 hV hW hQ hz hf; exact absurd hf (by omega)
    | succ f ih =>
      intro j u j0 j1 hV hW hQ hz hf
      have h6 : rdw u xo 6 = n := (ZU.kx hX0 hW (by omega)).trans h6w
      refine g_iload_n (pc' := 3) hX dX1_solve_2 rfl rfl ?_
      refine g_aload_n (pc' := 4) hX dX1_solve_3 rfl rfl ?_
      refine gf_X1_237 (pc' := 7) hX dX1_solve_4 hV.h0 hV.hk rfl ?_
      rw [h6]
      refine g_icmp_ge (pc' := 10) (tgt := 30) hX dX1_solve_7 (by decide) rfl (by omega) (by omega) (fun h7 => ?_) (fun h7 => ?_)
      · skip
        refine g_iconst (pc' := 31) hX dX1_solve_30 rfl ?_
        refine g_istore_n_1 (pc' := 32) hX dX1_solve_31 (by decide) rfl rfl ?_
        have loop : ∀ (f : Nat) (i : Int) (u : Wd), 0 ≤ i → i ≤ n → XI E xo b u → Gr (ZU E xo b w) w u → XQ E b u → HUN n i C (rdw u (b + 8)) (rdw u (b + 9)) (rdw u (b + 11)) (rdw u (b + 10)) → n < i + f → GG X (98 * (7 - i).toNat) (665 * (7 - i).toNat) u 32 [(1, xo), (0, i), (9, 0)] [] := by
          intro f
          induction f with
          | zero => intro i u i0 i1 hV hW hQ hH hf; exact absurd hf (by omega)
          | succ f ih =>
            intro i u i0 i1 hV hW hQ hH hf
            have h6 : rdw u xo 6 = n := (ZU.kx hX0 hW (by omega)).trans h6w
            have hAu : ∀ i j : Int, 0 ≤ i → i < n → 0 ≤ j → j < n → rdw u (b + 1 + i) j = C i j := fun i j i0 i1 j0 j1 => by rw [ZU.ck hX0 hW (by omega)]; exact hA i j i0 i1 j0 j1
            refine g_iload_n (pc' := 33) hX dX1_solve_32 rfl rfl ?_
            refine g_aload_n (pc' := 34) hX dX1_solve_33 rfl rfl ?_
            refine gf_X1_237 (pc' := 37) hX dX1_solve_34 hV.h0 hV.hk rfl ?_
            rw [h6]
            refine g_icmp_ge (pc' := 40) (tgt := 51) hX dX1_solve_37 (by decide) rfl (by omega) (by omega) (fun h37 => ?_) (fun h37 => ?_)
            · skip
              have hin : i = n := by omega
              rw [hin] at hH
              have hO := hH.opt (by omega)
              refine g_iconst (pc' := 52) hX dX1_solve_51 rfl ?_
              refine g_istore_n_1 (pc' := 53) hX dX1_solve_52 (by decide) rfl rfl ?_
              refine g_iconst (pc' := 54) hX dX1_solve_53 rfl ?_
              refine g_istore_n_2 (pc' := 55) hX dX1_solve_54 (by decide) rfl rfl ?_
              have loop : ∀ (f : Nat) (j t : Int), 0 ≤ j → j ≤ n → t = sm' j.toNat (fun i => C i (rdw u (b + 11) i)) → n < j + f → GG X 0 0 u 55 [(1, xo), (0, t), (0, j)] [] := by
                intro f
                induction f with
                | zero => intro j t j0 j1 ht hf; exact absurd hf (by omega)
                | succ f ih =>
                  intro j t j0 j1 ht hf
                  refine g_iload_n (pc' := 56) hX dX1_solve_55 rfl rfl ?_
                  refine g_aload_n (pc' := 57) hX dX1_solve_56 rfl rfl ?_
                  refine gf_X1_237 (pc' := 60) hX dX1_solve_57 hV.h0 hV.hk rfl ?_
                  rw [h6]
                  refine g_icmp_ge (pc' := 63) (tgt := 85) hX dX1_solve_60 (by decide) rfl (by omega) (by omega) (fun h60 => ?_) (fun h60 => ?_)
                  · skip
                    refine g_iload_n (pc' := 86) hX dX1_solve_85 rfl rfl ?_
                    exact g_retI hX hF dX1_solve_86 ⟨hV, hW, hQ, hO, by rw [ht, show j = n by omega]; exact hO.ret, hH⟩
                  · skip
                    refine g_iload_n (pc' := 64) hX dX1_solve_63 rfl rfl ?_
                    refine g_aload_n (pc' := 65) hX dX1_solve_64 rfl rfl ?_
                    refine gf_X1_35 (pc' := 68) hX dX1_solve_65 hV.h0 hV.hk rfl ?_
                    rw [hV.f 7 (by decide) (show xF 7 = 0 from rfl)]
                    refine g_iload_n (pc' := 69) hX dX1_solve_68 rfl rfl ?_
                    refine g_aaldL (pc' := 70) hX dX1_solve_69 (by have := hV.b0; omega) (by rw [hV.kk 0 (by decide) (show xK b 0 = 54 from rfl)]; decide) (hV.ln 0 (by decide) (show xL 0 = 7 from rfl)) (by omega) rfl ?_
                    rw [hV.c0 (by omega)]
                    refine g_aload_n (pc' := 71) hX dX1_solve_70 rfl rfl ?_
                    refine gf_X1_48 (pc' := 74) hX dX1_solve_71 hV.h0 hV.hk rfl ?_
                    rw [hV.f 11 (by decide) (show xF 11 = 11 from rfl)]
                    refine g_iload_n (pc' := 75) hX dX1_solve_74 rfl rfl ?_
                    refine g_ialdL (pc' := 76) hX dX1_solve_75 (by have := hV.b0; omega) (hV.kk 11 (by decide) (show xK b 11 = 50 from rfl)) (hV.ln 11 (by decide) (show xL 11 = 7 from rfl)) (by omega) rfl ?_
                    have hcj := (hO.2.1 j j0 (by omega)).1
                    refine g_ialdL (pc' := 77) hX dX1_solve_76 (by have := hV.b0; omega) (hV.ck (by omega)) (hV.cl (by omega)) (by omega) rfl ?_
                    rw [hAu j _ j0 (by omega) hcj.1 (by omega)]
                    refine g_iadd (pc' := 78) hX dX1_solve_77 rfl ?_
                    refine g_istore_n_1 (pc' := 79) hX dX1_solve_78 (by decide) rfl rfl ?_
                    refine g_iinc_2 (pc' := 82) hX dX1_solve_79 (by decide) rfl rfl ?_
                    refine g_goto (tgt := 55) hX dX1_solve_82 (by decide) ?_
                    exact ih (j + 1) _ (by omega) (by omega) (by rw [sm_i j0, ht]) (by omega)
              exact GG_less (loop 100 0 0 (by omega) (by omega) rfl (by omega)) (by omega) (by omega)
            · skip
              refine g_aload_n (pc' := 41) hX dX1_solve_40 rfl rfl ?_
              refine g_iload_n (pc' := 42) hX dX1_solve_41 rfl rfl ?_
              refine gV1U (pc' := 45) hX dX1_solve_42 ml_X1_277 gc_X1 hV.h0 hV.hk (c_s_augment hV hQ h6 hn ⟨i0, by omega⟩ hAu hC hH) (Nat.le_of_ble_eq_true rfl) (by decide) ⟨by omega, by omega⟩ rfl (fun w42 q42 => ?_)
              obtain ⟨hV3, hG3, hQ3, hH3⟩ := q42
              refine g_iinc_1 (pc' := 48) hX dX1_solve_45 (by decide) rfl rfl ?_
              refine g_goto (tgt := 32) hX dX1_solve_48 (by decide) ?_
              exact GG_less (ih (i + 1) w42 (by omega) (by omega) hV3 (ZU.tr hW hG3) hQ3 hH3 (by omega)) (by omega) (by omega)
        exact GG_less (loop 100 0 u (by omega) (by omega) hV hW hQ (HUN.zero (fun j q0 q1 => hz j q0 (by omega))) (by omega)) (by omega) (by omega)
      · skip
        refine g_aload_n (pc' := 11) hX dX1_solve_10 rfl rfl ?_
        refine gf_X1_42 (pc' := 14) hX dX1_solve_11 hV.h0 hV.hk rfl ?_
        rw [hV.f 9 (by decide) (show xF 9 = 9 from rfl)]
        refine g_iload_n (pc' := 15) hX dX1_solve_14 rfl rfl ?_
        refine g_iconst (pc' := 16) hX dX1_solve_15 rfl ?_
        refine g_iastL (pc' := 17) hX dX1_solve_16 (by have := hV.hbb; omega) (hV.kk 9 (by decide) (show xK b 9 = 50 from rfl)) (hV.ln 9 (by decide) (show xL 9 = 7 from rfl)) (by omega) rfl ?_
        refine AU.up 9 (by omega) hV hW hQ (fun u2 hV2 hW2 hQ2 g2 => ?_)
        have hV := hV2
        refine g_aload_n (pc' := 18) hX dX1_solve_17 rfl rfl ?_
        refine gf_X1_45 (pc' := 21) hX dX1_solve_18 hV.h0 hV.hk rfl ?_
        first
          | rw [hV.f 10 (by decide) (show xF 10 = 10 from rfl)]
          | (repeat rw [rd_up_ne (by omega)]); rw [hV.f 10 (by decide) (show xF 10 = 10 from rfl)]
        refine g_iload_n (pc' := 22) hX dX1_solve_21 rfl rfl ?_
        refine g_iconst (pc' := 23) hX dX1_solve_22 rfl ?_
        refine g_iastL (pc' := 24) hX dX1_solve_23 (by have := hV.hbb; omega) (hV.kk 10 (by decide) (show xK b 10 = 50 from rfl)) (hV.ln 10 (by decide) (show xL 10 = 7 from rfl)) (by omega) rfl ?_
        refine AU.up 10 (by omega) hV2 hW2 hQ2 (fun u3 hV3 hW3 hQ3 g3 => ?_)
        have hV := hV3
        have hz3 : ∀ q : Int, 0 ≤ q → q < j + 1 → rdw u3 (b + 9) q = 0 ∧ rdw u3 (b + 10) q = -1 := fun q q0 q1 => by
          rw [g3 9 q, g3 10 q, g2 9 q, g2 10 q, if_neg (by omega), if_neg (c := (10 : Int) = 9 ∧ q = j) (by omega)]
          by_cases hq : q = j
          · rw [if_pos ⟨rfl, hq⟩, if_pos ⟨rfl, hq⟩]; exact ⟨rfl, rfl⟩
          · rw [if_neg (fun z => hq z.2), if_neg (fun z => hq z.2)]; exact hz q q0 (by omega)
        refine g_iinc_1 (pc' := 27) hX dX1_solve_24 (by decide) rfl rfl ?_
        refine g_goto (tgt := 2) hX dX1_solve_27 (by decide) ?_
        exact ih (j + 1) u3 (by omega) (by omega) hV3 hW3 hQ3 hz3 (by omega)
  exact loop 100 0 w (by omega) (by omega) hX0 Gr.rf hQ (fun q q0 q1 => by omega) (by omega)

end S5S
