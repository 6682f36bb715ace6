/-! THE ENUMERATION: a part goes on (by gen/spec_s14.py) -/
set_option maxRecDepth 100000
set_option maxHeartbeats 8000000
section S14S
variable {X : Cx} {bc bs pc : Nat} {lv : List (Nat × Int)} {st : List Value} {E : Ev} {w w0 u u' : Wd} {P : Int → Int → Prop} {T r c n m sn sm l i j k v a z xo b it x y sz fd far q row base L r0 p : Int} {h h' sh C C0 R : Int → Int → Int} {f g : Int → Int} {e : En} {S : Int → Prop} {s N : Nat} {π : List Nat} {B : List Int}
theorem ps_ub {R : Int → Int → Int} : ∀ {l : List Nat} {i : Int}, (∀ k : Nat, k < l.length → R (i + k) (l.getD k 0 : Nat) ≤ 100000) → ps R i l ≤ 100000 * l.length
  | [], _, _ => by simp [ps]
  | x :: l, i, h => by
    have h1 := h 0 (by simp)
    have h2 := ps_ub (R := R) (l := l) (i := i + 1) (fun k hk => by
      have := h (k + 1) (by simpa using hk)
      rw [List.getD_cons_succ] at this
      rw [show i + 1 + (k : Int) = i + ((k + 1 : Nat) : Int) by omega]
      exact this)
    show R i x + ps R (i + 1) l ≤ _
    rw [List.length_cons]
    rw [show i + ((0 : Nat) : Int) = i by omega] at h1
    have h3 : R i x ≤ 100000 := h1
    omega
theorem capP_s {c : Int} (h : capP c) (hc : c ≤ 2000) : capP (pqN c) ∧ 11 ≤ c ∧ c + 7 < pqN c := by
  unfold capP at h ⊢
  unfold pqN
  rcases h with z | z | z | z | z | z | z | z | z | z | z | z <;> first | omega | (rw [z]; decide) | (rw [z] at hc; omega)
theorem c_s_goOn (hX0 : XI E xo b w) (hf0 : rdw w xo 0 = n) (hn : 1 ≤ n ∧ n ≤ 6) (hp : PP w b n.toNat p π) (hl : (π.length : Int) < n) (hB : ∀ r ∈ B, PV4 w r) (hQ : PQ E w (b + 21) (b + 22) B.length (fun r => r ∈ B) (rkP w)) (hnd : B.Nodup) (hcap : capP (lnw w (rdw w (b + 21) 0))) (hR : ∀ i j : Int, 0 ≤ i → i < n → 0 ≤ j → j < n → 0 ≤ rdw w (b + 25 + i) j ∧ rdw w (b + 25 + i) j ≤ 100000) (hs : (B.length : Int) ≤ 1957) : Call E mX1_goOn 8 (2 * (n.toNat - π.length)) (4 * (n.toNat - π.length) + (if (B.length : Int) + (n.toNat - π.length) ≤ lnw w (rdw w (b + 21) 0) then 0 else (pqN (lnw w (rdw w (b + 21) 0))).toNat)) [vR xo, vR p] w (qU (fun w' => Gr (ZN E xo b w) w w' ∧ ∃ Ch : List Int, PQ E w' (b + 21) (b + 22) (Ch ++ B).length (fun r => r ∈ Ch ++ B) (rkP w') ∧ (Ch ++ B).Nodup ∧ (∀ r ∈ Ch, ∃ j, j < n.toNat ∧ j ∉ π ∧ PP w' b n.toNat r (π ++ [j])) ∧ (∀ j, j < n.toNat → j ∉ π → ∃ r ∈ Ch, PP w' b n.toNat r (π ++ [j])) ∧ (∀ r ∈ Ch, ∀ r' ∈ Ch, ∀ j, PP w' b n.toNat r (π ++ [j]) → PP w' b n.toNat r' (π ++ [j]) → r = r') ∧ (Ch.length : Int) = n - π.length ∧ lnw w' (rdw w' (b + 21) 0) = (if (B.length : Int) + (n.toNat - π.length) ≤ lnw w (rdw w (b + 21) 0) then lnw w (rdw w (b + 21) 0) else pqN (lnw w (rdw w (b + 21) 0))) ∧ ∀ i, rdw w' xo i = rdw w xo i)) := by
  refine call_of (av := [(1, xo), (1, p)]) (by decide +kernel) rfl (Nat.le_of_ble_eq_true rfl) ?_
  intro X hX hF hname
  show GG X (2 * (n.toNat - π.length)) (4 * (n.toNat - π.length) + (if (B.length : Int) + (n.toNat - π.length) ≤ lnw w (rdw w (b + 21) 0) then 0 else (pqN (lnw w (rdw w (b + 21) 0))).toNat)) w 0 [(1, xo), (1, p), (9, 0)] []
  have hV := hX0
  have hxb := hX0.1.2.1
  have hπn : ∀ x ∈ π, x < n.toNat := hp.2.1.2.2.2
  have hmk := mk_bit (π := π) (fun x hx => by have := hπn x hx; omega)
  have hus := unI_sum (n := n.toNat) hp.2.1.2.2.1 hπn
  have hunn : ∀ i : Int, 0 ≤ i → i < n.toNat → 0 ≤ unI π i := fun i _ _ => by unfold unI; split <;> omega
  obtain ⟨cap, hcap0⟩ : ∃ cap, cap = lnw w (rdw w (b + 21) 0) := ⟨_, rfl⟩
  rw [← hcap0] at hcap hF ⊢
  have hsc := hQ.2.1.2.2.1
  rw [← hcap0] at hsc
  have hc11 : 11 ≤ cap := by unfold capP at hcap; omega
  have hcg : cap < (B.length : Int) + 7 → capP (pqN cap) ∧ cap + 7 < pqN cap := fun z => by have := capP_s hcap (by omega); exact ⟨this.1, this.2.2⟩
  have hpsb : ps (fun i j => rdw w (b + 25 + i) j) 0 π ≤ 100000 * π.length := ps_ub (fun k hk => (hR (0 + k) _ (by omega) (by omega) (by omega) (by have := hπn (π.getD k 0) (by rw [List.getD_eq_getElem?_getD, List.getElem?_eq_getElem hk]; exact List.getElem_mem _); omega)).2)
  refine g_iconst (pc' := 1) hX dX1_goOn_0 rfl ?_
  refine g_istore_n_2 (pc' := 2) hX dX1_goOn_1 (by decide) rfl rfl ?_
  have loop : ∀ (f : Nat) (j : Int) (u : Wd) (Ch : List Int), 0 ≤ j → j ≤ n → Gr (ZN E xo b w) w u → (∀ i, rdw u xo i = rdw w xo i) → PQ E u (b + 21) (b + 22) (Ch ++ B).length (fun r => r ∈ Ch ++ B) (rkP u) → (Ch ++ B).Nodup → (∀ r ∈ Ch, ∃ i : Nat, (i : Int) < j ∧ i ∉ π ∧ PP u b n.toNat r (π ++ [i])) → (∀ i : Nat, (i : Int) < j → i ∉ π → ∃ r ∈ Ch, PP u b n.toNat r (π ++ [i])) → (∀ r ∈ Ch, ∀ r' ∈ Ch, ∀ i, PP u b n.toNat r (π ++ [i]) → PP u b n.toNat r' (π ++ [i]) → r = r') → (Ch.length : Int) = sm' j.toNat (unI π) → lnw u (rdw u (b + 21) 0) = (if (B.length : Int) + Ch.length ≤ cap then cap else pqN cap) → n < j + f → GG X (2 * ((n.toNat - π.length) - Ch.length)) (4 * ((n.toNat - π.length) - Ch.length) + (if (B.length : Int) + Ch.length ≤ cap ∧ cap < (B.length : Int) + (n.toNat - π.length) then (pqN cap).toNat else 0)) u 2 [(1, xo), (1, p), (0, j)] [] := by
    intro f
    induction f with
    | zero => intro j u Ch j0 j1 hW hxs hPQ hCn hc1 hc2 hc3 hcl hcp hf; exact absurd hf (by omega)
    | succ f ih =>
      intro j u Ch j0 j1 hW hxs hPQ hCn hc1 hc2 hc3 hcl hcp hf
      have hV : XI E xo b u := hX0.gr hW (fun i z => by
        rcases z with z | z | z
        · omega
        · omega
        · have := hX0.hk; rw [this] at z; unfold pk at z; omega) (fun i => by have := ZN.no hX0 (k := 0) (by omega) (by omega) i; rwa [Int.add_zero] at this) (fun i => ZN.no hX0 (by omega) (by omega) i)
      have hf0u : rdw u xo 0 = n := (hxs 0).trans hf0
      have hPP : PP u b n.toNat p π := ZN.pp hX0 hW (by omega) hp
      refine g_iload_n (pc' := 3) hX dX1_goOn_2 rfl rfl ?_
      refine g_aload_n (pc' := 4) hX dX1_goOn_3 rfl rfl ?_
      refine gf_X1_7 (pc' := 7) hX dX1_goOn_4 hV.h0 hV.hk rfl ?_
      rw [hf0u]
      refine g_icmp_ge (pc' := 10) (tgt := 83) hX dX1_goOn_7 (by decide) rfl (by omega) (by omega) (fun h7 => ?_) (fun h7 => ?_)
      · skip
        have hjn : j = n := by omega
        have hK : (Ch.length : Int) = n - π.length := by rw [hcl, hjn, hus]; omega
        exact g_retU hX hF dX1_goOn_83 ⟨hW, Ch, hPQ, hCn, fun r hr => by obtain ⟨i, i1, i2, i3⟩ := hc1 r hr; exact ⟨i, by omega, i2, i3⟩, fun i i1 i2 => hc2 i (by omega) i2, hc3, hK, by rw [hcp, show (Ch.length : Int) = (n.toNat : Int) - π.length by omega], hxs⟩
      · skip
        have hjb := hmk.2 j.toNat (by omega)
        refine g_aload_n (pc' := 11) hX dX1_goOn_10 rfl rfl ?_
        refine gf_X1_324 (pc' := 14) hX dX1_goOn_11 hPP.1.1.1 hPP.1.1.2 rfl ?_
        rw [hPP.2.2.2.2]
        refine g_iload_n (pc' := 15) hX dX1_goOn_14 rfl rfl ?_
        refine g_ishr (pc' := 16) (((mk π >>> j.toNat : Nat) : Int)) hX dX1_goOn_15 (bt_shr (hs := hmk.1) (by omega)) rfl ?_
        refine g_iconst (pc' := 17) hX dX1_goOn_16 rfl ?_
        refine g_iand (pc' := 18) (((mk π >>> j.toNat % 2 : Nat) : Int)) hX dX1_goOn_17 (b_and1' (b_shr_lt _ hmk.1 j.toNat (by omega))) rfl ?_
        refine g_if_ne (pc' := 21) (tgt := 77) hX dX1_goOn_18 (by decide) rfl (by omega) (fun h18 => ?_) (fun h18 => ?_)
        · skip
          have hin : j.toNat ∈ π := Classical.byContradiction (fun z => by rw [if_neg z] at hjb; omega)
          refine g_iinc_2 (pc' := 80) hX dX1_goOn_77 (by decide) rfl rfl ?_
          refine g_goto (tgt := 2) hX dX1_goOn_80 (by decide) ?_
          first
            | exact GG_less (ih (j + 1) w73 (y :: Ch) (by omega) (by omega) hW4 hxs4 hPQ4 hnd4 d1 d2 d3 dl d5 (by omega)) (by rw [List.length_cons]; omega) (by rw [List.length_cons]; exact hbud)
            | exact GG_less (ih (j + 1) u Ch (by omega) (by omega) hW hxs hPQ hCn (fun r hr => by obtain ⟨i, i1, i2, i3⟩ := hc1 r hr; exact ⟨i, by omega, i2, i3⟩) (fun i i1 i2 => hc2 i (by
                have : (i : Int) ≠ j := fun z => i2 (by rw [show i = j.toNat by omega]; exact hin)
                omega) i2) hc3 (by rw [sm_i j0, show unI π j = 0 from if_pos hin]; omega) hcp (by omega)) (by omega) (by omega)
        · skip
          have hni : j.toNat ∉ π := fun z => by rw [if_pos z] at hjb; omega
          have hun1 : unI π j = 1 := if_neg hni
          have hcle : (Ch.length : Int) + 1 ≤ n - π.length := by
            have h1 := sm_up (f := unI π) (j := (j + 1).toNat) (n := n.toNat) (by omega) hunn
            rw [sm_i j0, hun1, ← hcl, hus] at h1
            omega
          refine g_aload_n (pc' := 22) hX dX1_goOn_21 rfl rfl ?_
          refine gf_X1_85 (pc' := 25) hX dX1_goOn_22 hV.h0 hV.hk rfl ?_
          rw [hV.f 20 (by decide) (show xF 20 = 21 from rfl)]
          refine g_fr (fun hfr hs0' => ?_)
          refine g_szB hX (fun hszB => ?_)
          refine g_new (pc' := 28) (fun _ => 0) hX dX1_goOn_25 gc_X6 q1450 q1451 q92 (by decide) (by omega) (by omega) rfl ?_
          have hks : kdw u (szw u) = 0 := hfr _ (Int.le_refl _)
          have hN1 : Gr NoP u (alw u 4 0 (fun _ => 0)) := Gr.rf.al hfr
          have hk2 : kdw (alw u 4 0 (fun _ => 0)) (szw u) = 4 := by rw [kd_al, if_pos rfl]
          generalize alw u 4 0 (fun _ => 0) = u2 at *
          generalize szw u = y at *
          have hV2 : XI E xo b u2 := hV.gr hN1 (fun _ z => z.elim) (fun _ => id) (fun _ => id)
          have hZ1 : Gr (ZN E xo b u) u u2 := hN1.wk (fun _ _ z => z.elim)
          have hPP2 : PP u2 b n.toNat p π := ZN.pp hV hZ1 (by omega) hPP
          have hPPu := hPP
          have hPP := hPP2
          have hVu := hV
          have hV := hV2
          have hrow2 : ∀ i q : Int, 0 ≤ i → i < n → rdw u2 (b + 25 + i) q = rdw w (b + 25 + i) q := fun i q i0 i1 => (ZN.rd hVu hZ1 i0 (by omega) q).trans (ZN.rd hX0 hW i0 (by omega) q)
          refine g_dup (pc' := 29) hX dX1_goOn_28 (vR_cat _) rfl ?_
          refine g_aload_n (pc' := 30) hX dX1_goOn_29 rfl rfl ?_
          refine gf_X1_327 (pc' := 33) hX dX1_goOn_30 hPP.1.1.1 hPP.1.1.2 rfl ?_
          rw [hPP.2.2.1]
          refine g_aload_n (pc' := 34) hX dX1_goOn_33 rfl rfl ?_
          refine gf_X1_88 (pc' := 37) hX dX1_goOn_34 hV.h0 hV.hk rfl ?_
          rw [hV.f 21 (by decide) (show xF 21 = 24 from rfl)]
          refine g_aload_n (pc' := 38) hX dX1_goOn_37 rfl rfl ?_
          refine gf_X1_330 (pc' := 41) hX dX1_goOn_38 hPP.1.1.1 hPP.1.1.2 rfl ?_
          rw [hPP.2.1.1]
          refine g_aaldL (pc' := 42) hX dX1_goOn_41 (by have := hV.b0; omega) (by rw [hV.kk 24 (by decide) (show xK b 24 = 54 from rfl)]; decide) (hV.ln 24 (by decide) (show xL 24 = 7 from rfl)) (by omega) rfl ?_
          rw [hV.c24 (by omega)]
          refine g_iload_n (pc' := 43) hX dX1_goOn_42 rfl rfl ?_
          refine g_ialdL (pc' := 44) hX dX1_goOn_43 (by have := hV.b0; omega) (hV.rk (by omega)) (hV.rl (by omega)) (by omega) rfl ?_
          rw [hrow2 _ _ (by omega) hl]
          refine g_iadd (pc' := 45) hX dX1_goOn_44 rfl ?_
          refine g_aload_n (pc' := 46) hX dX1_goOn_45 rfl rfl ?_
          refine gf_X1_330 (pc' := 49) hX dX1_goOn_46 hPP.1.1.1 hPP.1.1.2 rfl ?_
          rw [hPP.2.1.1]
          refine g_iconst (pc' := 50) hX dX1_goOn_49 rfl ?_
          refine g_iadd (pc' := 51) hX dX1_goOn_50 rfl ?_
          refine g_bipush (pc' := 53) hX dX1_goOn_51 rfl rfl ?_
          refine g_aload_n (pc' := 54) hX dX1_goOn_53 rfl rfl ?_
          refine gf_X1_333 (pc' := 57) hX dX1_goOn_54 hPP.1.1.1 hPP.1.1.2 rfl ?_
          rw [hPP.2.2.2.1]
          refine g_imul (pc' := 58) hX dX1_goOn_57 rfl ?_
          refine g_iload_n (pc' := 59) hX dX1_goOn_58 rfl rfl ?_
          refine g_iadd (pc' := 60) hX dX1_goOn_59 rfl ?_
          refine g_iconst (pc' := 61) hX dX1_goOn_60 rfl ?_
          refine g_iadd (pc' := 62) hX dX1_goOn_61 rfl ?_
          refine g_aload_n (pc' := 63) hX dX1_goOn_62 rfl rfl ?_
          refine gf_X1_324 (pc' := 66) hX dX1_goOn_63 hPP.1.1.1 hPP.1.1.2 rfl ?_
          rw [hPP.2.2.2.2]
          refine g_iconst (pc' := 67) hX dX1_goOn_66 rfl ?_
          refine g_iload_n (pc' := 68) hX dX1_goOn_67 rfl rfl ?_
          refine g_ishl (pc' := 69) (((1 <<< j.toNat : Nat) : Int)) hX dX1_goOn_68 (bt_shl (by omega)) rfl ?_
          refine g_ior (pc' := 70) (((mk π ||| 1 <<< j.toNat : Nat) : Int)) hX dX1_goOn_69 (b_or _ hmk.1 j.toNat (by omega)) rfl ?_
          refine gI4EU0 (pc' := 73) hX dX1_goOn_70 ml_X1_321 hs0' (c_k_part hszB hk2) (Nat.le_of_ble_eq_true rfl) (by decide) rfl ?_
          have hpsw : ps (fun i j => rdw u2 (b + 25 + i) j) 0 π = ps (fun i j => rdw w (b + 25 + i) j) 0 π := ps_cgL (fun k hk => hrow2 (0 + (k : Int)) _ (by omega) (by omega))
          rw [hpsw]
          have hNn := (((hN1.upN (i := 0) (x := ps (fun i j => rdw w (b + 25 + i) j) 0 π + rdw w (b + 25 + (π.length : Int)) j) hks).upN (i := 1) (x := (π.length : Int) + 1) hks).upN (i := 2) (x := 10 * cd 0 π + j + 1) hks).upN (i := 3) (x := ((mk π ||| 1 <<< j.toNat : Nat) : Int)) hks
          have y0 : rdw (upw (upw (upw (upw u2 y 0 (ps (fun i j => rdw w (b + 25 + i) j) 0 π + rdw w (b + 25 + (π.length : Int)) j)) y 1 ((π.length : Int) + 1)) y 2 (10 * cd 0 π + j + 1)) y 3 ((mk π ||| 1 <<< j.toNat : Nat) : Int)) y 0 = ps (fun i j => rdw w (b + 25 + i) j) 0 π + rdw w (b + 25 + (π.length : Int)) j := by rw [rd_up_ne (by omega), rd_up_ne (by omega), rd_up_ne (by omega), rd_up_eq ⟨rfl, rfl⟩]
          have y1 : rdw (upw (upw (upw (upw u2 y 0 (ps (fun i j => rdw w (b + 25 + i) j) 0 π + rdw w (b + 25 + (π.length : Int)) j)) y 1 ((π.length : Int) + 1)) y 2 (10 * cd 0 π + j + 1)) y 3 ((mk π ||| 1 <<< j.toNat : Nat) : Int)) y 1 = (π.length : Int) + 1 := by rw [rd_up_ne (by omega), rd_up_ne (by omega), rd_up_eq ⟨rfl, rfl⟩]
          have y2 : rdw (upw (upw (upw (upw u2 y 0 (ps (fun i j => rdw w (b + 25 + i) j) 0 π + rdw w (b + 25 + (π.length : Int)) j)) y 1 ((π.length : Int) + 1)) y 2 (10 * cd 0 π + j + 1)) y 3 ((mk π ||| 1 <<< j.toNat : Nat) : Int)) y 2 = 10 * cd 0 π + j + 1 := by rw [rd_up_ne (by omega), rd_up_eq ⟨rfl, rfl⟩]
          have y3 : rdw (upw (upw (upw (upw u2 y 0 (ps (fun i j => rdw w (b + 25 + i) j) 0 π + rdw w (b + 25 + (π.length : Int)) j)) y 1 ((π.length : Int) + 1)) y 2 (10 * cd 0 π + j + 1)) y 3 ((mk π ||| 1 <<< j.toNat : Nat) : Int)) y 3 = ((mk π ||| 1 <<< j.toNat : Nat) : Int) := rd_up_eq ⟨rfl, rfl⟩
          have yk : kdw (upw (upw (upw (upw u2 y 0 (ps (fun i j => rdw w (b + 25 + i) j) 0 π + rdw w (b + 25 + (π.length : Int)) j)) y 1 ((π.length : Int) + 1)) y 2 (10 * cd 0 π + j + 1)) y 3 ((mk π ||| 1 <<< j.toNat : Nat) : Int)) y = 4 := by rw [kd_up, kd_up, kd_up, kd_up]; exact hk2
          generalize upw (upw (upw (upw u2 y 0 (ps (fun i j => rdw w (b + 25 + i) j) 0 π + rdw w (b + 25 + (π.length : Int)) j)) y 1 ((π.length : Int) + 1)) y 2 (10 * cd 0 π + j + 1)) y 3 ((mk π ||| 1 <<< j.toNat : Nat) : Int) = u3 at *
          have hV3 : XI E xo b u3 := hVu.gr hNn (fun _ z => z.elim) (fun _ => id) (fun _ => id)
          have hZ3 : Gr (ZN E xo b u) u u3 := hNn.wk (fun _ _ z => z.elim)
          have hV := hV3
          have hrow3 : ∀ i q : Int, 0 ≤ i → i < n → rdw u3 (b + 25 + i) q = rdw w (b + 25 + i) q := fun i q i0 i1 => (ZN.rd hVu hZ3 i0 (by omega) q).trans (ZN.rd hX0 hW i0 (by omega) q)
          have hRj := hR (π.length : Int) j (by omega) hl j0 (by omega)
          have hjt : ((j.toNat : Nat) : Int) = j := Int.toNat_of_nonneg j0
          have hcdb := cd_b (l := π ++ [j.toNat]) (a := 0) (fun x hx => by
            rcases List.mem_append.mp hx with z | z
            · have := hπn x z; omega
            · have := List.mem_singleton.mp z; omega)
          rw [cd_app, hjt, List.length_append, Int.mul_zero] at hcdb
          have hp10 := p10 (π.length + [j.toNat].length) (by simp only [List.length_cons, List.length_nil]; omega)
          have hps0 := hPPu.1.2.1
          have hq0 := hPPu.2.2.1
          have hpu : ps (fun i j => rdw u (b + 25 + i) j) 0 π = ps (fun i j => rdw w (b + 25 + i) j) 0 π := ps_cgL (fun k hk => ZN.rd hX0 hW (i := 0 + (k : Int)) (by omega) (by omega) _)
          rw [hpu] at hq0
          have hmk2 := b_or_lt _ hmk.1 j.toNat (by omega)
          have hps3 : ps (fun i j => rdw u3 (b + 25 + i) j) 0 π = ps (fun i j => rdw w (b + 25 + i) j) 0 π := ps_cgL (fun k hk => hrow3 (0 + (k : Int)) _ (by omega) (by omega))
          have hPy : PP u3 b n.toNat y (π ++ [j.toNat]) := by
            refine ⟨⟨⟨hs0', yk⟩, by rw [y0]; omega, by rw [y1]; omega, by rw [y2]; omega, by rw [y3]; omega⟩, ⟨by rw [y1, List.length_append]; rfl, by rw [List.length_append]; simp only [List.length_cons, List.length_nil]; omega, List.nodup_append.mpr ⟨hp.2.1.2.2.1, List.nodup_cons.mpr ⟨List.not_mem_nil, List.nodup_nil⟩, fun a ha c hc => by
              rw [List.mem_singleton.mp hc]; exact fun z => hni (by rw [← z]; exact ha)⟩, fun x hx => ?_⟩, ?_, by rw [y2, cd_app, hjt], by rw [y3, mk_app]⟩
            · rcases List.mem_append.mp hx with z | z
              · exact hπn x z
              · rw [List.mem_singleton.mp z]; omega
            · rw [y0, ps_sn, Int.zero_add, hjt, hps3]
              show _ = _ + rdw u3 (b + 25 + (π.length : Int)) j
              rw [hrow3 _ _ (by omega) hl]
          have hpvu : ∀ r ∈ Ch ++ B, PV4 u r := fun r hr => by
            rcases List.mem_append.mp hr with z | z
            · obtain ⟨i, -, -, h⟩ := hc1 r z
              exact h.1
            · exact ((hB r z).gr hW (fun i => ZN.n4 hX0 (hB r z).1.2)).1
          have hpv3 : ∀ r ∈ Ch ++ B, PV4 u3 r ∧ rkP u3 r = rkP u r ∧ ∀ i, rdw u3 r i = rdw u r i := fun r hr => (hpvu r hr).gr hNn (fun _ => id)
          have hg3 := hPQ.gr hNn (fun _ => id) (fun _ => id)
          have hka3 : kdw u3 (rdw u3 (b + 21) 0) = pk b := hg3.1.2.1.2.1
          have h213 : kdw u3 (b + 21) = 9 := hV3.kk 21 (by decide) (show xK b 21 = 9 from rfl)
          have hyS : ¬ y ∈ Ch ++ B := fun z => by have := (hpvu y z).1.2; omega
          have hT : ∀ r, (r ∈ Ch ++ B ∨ r = y) → PV4 u3 r ∧ ¬ qP E u3 (b + 21) r := fun r hr => by
            have h1 : PV4 u3 r := by
              rcases hr with z | z
              · exact (hpv3 r z).1
              · rw [z]; exact hPy.1
            refine ⟨h1, ?_⟩
            rintro (z | z)
            · have := h1.1.2; rw [z, h213] at this; omega
            · have := h1.1.2; rw [z, hka3] at this; unfold pk at this; omega
          have hln3 : lnw u3 (rdw u3 (b + 21) 0) = (if (B.length : Int) + Ch.length ≤ cap then cap else pqN cap) := by
            rw [hg3.2, hNn.ln (by have h1 := hPQ.2.1.2.1; omega)]; exact hcp
          have hsl : ((Ch ++ B).length : Int) = (B.length : Int) + Ch.length := by rw [List.length_append]; omega
          have hNN : ((Ch ++ B).length : Int) = lnw u3 (rdw u3 (b + 21) 0) → (((if (B.length : Int) + Ch.length = cap then (pqN cap).toNat else 0) : Nat) : Int) = pqN ((Ch ++ B).length : Int) := fun z => by
            rw [hln3] at z
            by_cases c1 : (B.length : Int) + Ch.length ≤ cap
            · rw [if_pos c1] at z
              rw [if_pos (by omega), z]
              have : 0 ≤ pqN cap := by unfold pqN; split <;> omega
              omega
            · rw [if_neg c1] at z
              have := (hcg (by omega)).2
              omega
          refine gV1I (pc' := 76) hX dX1_goOn_73 ml_X1_252 gc_J9 (by have := hV3.b0; omega) h213 (c_j_offer (N := (if (B.length : Int) + Ch.length = cap then (pqN cap).toNat else 0)) (hg3.1.rk (rk' := rkP u3) (fun r hr => (hpv3 r hr).2.1)) ml_J9_149_X3 gc_X3 (by have := hV3.b0; omega) (hV3.kk 22 (by decide) (show xK b 22 = 6 from rfl)) (by omega) hyS hs0' (fun r hr => okr_k (hT r hr).1.1.2 (by omega)) (CMG_P (by have := hV3.b0; omega) (hV3.kk 22 (by decide) (show xK b 22 = 6 from rfl)) hT) hNN) (Nat.le_of_ble_eq_true rfl) (by decide) ⟨by omega, by (repeat' split) <;> omega⟩ rfl (fun r73 w73 q73 => ?_)
          obtain ⟨rfl, hPQ4, hG4, hc4⟩ := q73
          have hb3 : (eB E : Int) ≤ rdw u3 (b + 21) 0 := hg3.1.2.1.1
          have hku : kdw u (rdw u (b + 21) 0) = pk b := hPQ.2.1.2.1
          have hZ4 : Gr (ZN E xo b u) u w73 := hZ3.trN hG4 (fun a i hk z => by
            rcases z with z | z
            · exact Or.inr (Or.inl z)
            · rw [hg3.2] at z
              exact Or.inr (Or.inr ⟨by rw [z]; exact hku, by rw [z, ← hg3.2]; exact hb3⟩))
          have hW4 : Gr (ZN E xo b w) w w73 := hW.trN hZ4 (fun a i hk z => by
            unfold ZN at z ⊢
            rw [hW.kd hk] at z; exact z)
          have hxs4 : ∀ i, rdw w73 xo i = rdw w xo i := fun i => by
            rw [hG4.rd (by rw [hV3.hk]; decide) (fun z => by
              rcases z with z | z
              · omega
              · have h1 := hV3.hk; rw [z, hka3] at h1; unfold pk at h1; omega), hNn.rd (by rw [hVu.hk]; decide) id]
            exact hxs i
          have hpv4 : ∀ r, (r ∈ Ch ++ B ∨ r = y) → PV4 w73 r ∧ rkP w73 r = rkP u3 r ∧ ∀ i, rdw w73 r i = rdw u3 r i := fun r hr => (hT r hr).1.gr hG4 (fun _ => (hT r hr).2)
          have hset : (fun r => r ∈ Ch ++ B ∨ r = y) = (fun r => r ∈ (y :: Ch) ++ B) := funext (fun r => propext ⟨fun z => by
            rcases z with z | z
            · exact List.mem_cons_of_mem _ z
            · rw [z]; exact List.mem_cons_self, fun z => by
            rcases List.mem_cons.mp z with z | z
            · exact Or.inr z
            · exact Or.inl z⟩)
          have hPQ4 := hPQ4.rk (rk' := rkP w73) (fun r hr => (hpv4 r hr).2.1)
          rw [hset, show ((Ch ++ B).length : Int) + 1 = (((y :: Ch) ++ B).length : Int) by rw [List.cons_append, List.length_cons]; omega] at hPQ4
          have hnd4 : ((y :: Ch) ++ B).Nodup := List.nodup_cons.mpr ⟨hyS, hCn⟩
          have hPy4 : PP w73 b n.toNat y (π ++ [j.toNat]) := hPy.gr (P := fun a _ => qP E u3 (b + 21) a) hG4 (by omega) (fun a i ha z => by
            rcases z with z | z
            · rw [z, h213] at ha; omega
            · rw [z, hka3] at ha; unfold pk at ha; omega) (fun k i k0 k1 => by
            have hkk : kdw u3 (b + 25 + k) = 50 := hV3.rk (by omega)
            refine ⟨by rw [hkk]; decide, fun z => ?_⟩
            rcases z with z | z
            · rw [z, h213] at hkk; omega
            · rw [z, hka3] at hkk; unfold pk at hkk; omega)
          have up4 : ∀ r π', PP u b n.toNat r π' → PP w73 b n.toNat r π' := fun r π' => ZN.pp hVu hZ4 (by omega)
          have dn4 : ∀ r ∈ Ch, ∀ π', PP w73 b n.toNat r π' → PP u b n.toNat r π' := fun r hr π' => ZN.pb hVu hZ4 (by omega) (hpvu r (List.mem_append_left _ hr))
          have d1 : ∀ r ∈ y :: Ch, ∃ i : Nat, (i : Int) < j + 1 ∧ i ∉ π ∧ PP w73 b n.toNat r (π ++ [i]) := fun r hr => by
            rcases List.mem_cons.mp hr with z | z
            · exact ⟨j.toNat, by omega, hni, by rw [z]; exact hPy4⟩
            · obtain ⟨i, i1, i2, i3⟩ := hc1 r z
              exact ⟨i, by omega, i2, up4 r _ i3⟩
          have d2 : ∀ i : Nat, (i : Int) < j + 1 → i ∉ π → ∃ r ∈ y :: Ch, PP w73 b n.toNat r (π ++ [i]) := fun i i1 i2 => by
            by_cases z : (i : Int) = j
            · exact ⟨y, List.mem_cons_self, by rw [show i = j.toNat by omega]; exact hPy4⟩
            · obtain ⟨r, hr, h3⟩ := hc2 i (by omega) i2
              exact ⟨r, List.mem_cons_of_mem _ hr, up4 r _ h3⟩
          have dx : ∀ r ∈ Ch, ∀ i, PP w73 b n.toNat r (π ++ [i]) → PP w73 b n.toNat y (π ++ [i]) → False := fun r hr i a1 a2 => by
            obtain ⟨i', i1, i2, i3⟩ := hc1 r hr
            have e1 := a2.det (by omega) hPy4
            have e2 := (up4 r _ i3).det (by omega) a1
            rw [e1] at e2
            have e3 := List.append_cancel_left e2
            have e4 : i' = j.toNat := by injection e3
            omega
          have d3 : ∀ r ∈ y :: Ch, ∀ r' ∈ y :: Ch, ∀ i, PP w73 b n.toNat r (π ++ [i]) → PP w73 b n.toNat r' (π ++ [i]) → r = r' := fun r hr r' hr' i a1 a2 => by
            rcases List.mem_cons.mp hr with z | z
            · rcases List.mem_cons.mp hr' with z' | z'
              · rw [z, z']
              · exact (dx r' z' i a2 (by rw [← z]; exact a1)).elim
            · rcases List.mem_cons.mp hr' with z' | z'
              · exact (dx r z i a1 (by rw [← z']; exact a2)).elim
              · exact hc3 r z r' z' i (dn4 r z _ a1) (dn4 r' z' _ a2)
          have dl : (((y :: Ch).length : Nat) : Int) = sm' (j + 1).toNat (unI π) := by rw [sm_i j0, hun1, ← hcl, List.length_cons]; omega
          have d5 : lnw w73 (rdw w73 (b + 21) 0) = (if (B.length : Int) + ((y :: Ch).length : Nat) ≤ cap then cap else pqN cap) := by
            rw [hc4, hln3, hsl, List.length_cons]
            by_cases c1 : (B.length : Int) + Ch.length ≤ cap
            · rw [if_pos c1]
              by_cases c2 : (B.length : Int) + Ch.length < cap
              · rw [if_pos c2, if_pos (by omega)]
              · rw [if_neg c2, if_neg (by omega), show (B.length : Int) + Ch.length = cap by omega]
            · have := (hcg (by omega)).2
              rw [if_neg c1, if_pos (by omega), if_neg (by omega)]
          have hbud : (4 * (n.toNat - π.length - (Ch.length + 1)) + (if (B.length : Int) + ((Ch.length + 1 : Nat) : Int) ≤ cap ∧ cap < (B.length : Int) + (n.toNat - π.length) then (pqN cap).toNat else 0)) ≤ (4 * (n.toNat - π.length - Ch.length) + (if (B.length : Int) + Ch.length ≤ cap ∧ cap < (B.length : Int) + (n.toNat - π.length) then (pqN cap).toNat else 0)) - 4 - (if (B.length : Int) + Ch.length = cap then (pqN cap).toNat else 0) := by
            (repeat' split) <;> omega
          refine g_pop (pc' := 77) hX dX1_goOn_76 (vI_cat _) rfl ?_
          refine g_iinc_2 (pc' := 80) hX dX1_goOn_77 (by decide) rfl rfl ?_
          refine g_goto (tgt := 2) hX dX1_goOn_80 (by decide) ?_
          first
            | exact GG_less (ih (j + 1) w73 (y :: Ch) (by omega) (by omega) hW4 hxs4 hPQ4 hnd4 d1 d2 d3 dl d5 (by omega)) (by rw [List.length_cons]; omega) (by rw [List.length_cons]; exact hbud)
            | exact GG_less (ih (j + 1) u Ch (by omega) (by omega) hW hxs hPQ hCn (fun r hr => by obtain ⟨i, i1, i2, i3⟩ := hc1 r hr; exact ⟨i, by omega, i2, i3⟩) (fun i i1 i2 => hc2 i (by
                have : (i : Int) ≠ j := fun z => i2 (by rw [show i = j.toNat by omega]; exact hin)
                omega) i2) hc3 (by rw [sm_i j0, show unI π j = 0 from if_pos hin]; omega) hcp (by omega)) (by omega) (by omega)
  exact GG_less (loop 100 0 w [] (by omega) (by omega) Gr.rf (fun _ => rfl) hQ hnd (fun r hr => absurd hr (List.not_mem_nil)) (fun i i1 => by omega) (fun r hr => absurd hr (List.not_mem_nil)) rfl (by rw [← hcap0, List.length_nil]; exact (if_pos (by omega)).symm) (by omega)) (by rw [List.length_nil]; omega) (by rw [List.length_nil]; (repeat' split) <;> omega)

end S14S
