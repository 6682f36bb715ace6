/-! THE ENUMERATION: the next sum (by gen/spec_s15.py) -/
set_option maxRecDepth 100000
set_option maxHeartbeats 8000000
theorem lt_ns : LinkT RX1 338 340 4 := by
  refine ⟨q1488, q82, ?_, ?_, ?_, ?_⟩ <;> decide +kernel
def gsP (c : Int) : Nat := if c = 11 then 7677 else if c = 24 then 7653 else if c = 50 then 7603 else if c = 102 then 7501 else if c = 153 then 7348 else if c = 229 then 7119 else if c = 343 then 6776 else if c = 514 then 6262 else if c = 771 then 5491 else if c = 1156 then 4335 else if c = 1734 then 2601 else 0
theorem gsP_s {c : Int} (h : capP c) (hc : c ≤ 2000) : gsP (pqN c) + (pqN c).toNat = gsP c := by
  unfold capP at h
  rcases h with z | z | z | z | z | z | z | z | z | z | z | z <;> first | (rw [z]; decide) | (rw [z] at hc; omega)
theorem gsP_b {c : Int} : gsP c ≤ 7677 := by unfold gsP; (repeat' split) <;> omega
section S15S
variable {X : Cx} {bc bs pc : Nat} {lv : List (Nat × Int)} {st : List Value} {E : Ev} {w w0 u u' : Wd} {P : Int → Int → Prop} {T r c n m sn sm l i j k v a z xo b it x y sz fd far q row base r0 p : Int} {h h' sh C C0 R : Int → Int → Int} {f g : Int → Int} {e : En} {S : Int → Prop} {s N : Nat} {π : List Nat} {L : List Int}
theorem ZN.tr (hG : Gr (ZN E xo b w) w u) (hG2 : Gr (ZN E xo b u) u u') : Gr (ZN E xo b w) w u' := hG.trN hG2 (fun a i hk z => by
  unfold ZN at z ⊢
  rw [hG.kd hk] at z; exact z)
theorem ZN.xi (hX : XI E xo b w) (hG : Gr (ZN E xo b w) w u) : XI E xo b u := hX.gr hG (fun i z => by
  have hxb := hX.1.2.1
  rcases z with z | z | z
  · omega
  · omega
  · have := hX.hk; rw [this] at z; unfold pk at z; omega) (fun i => by have := ZN.no hX (k := 0) (by omega) (by omega) i; rwa [Int.add_zero] at this) (fun i => ZN.no hX (by omega) (by omega) i)
theorem ZN.xxB (hX : XI E xo b w) (hO : OW E w) (hT : XT E xo n m h sn sm sh w) (hQ : XQ E b w) (hG : Gr (ZN E xo b w) w u) : XI E xo b u ∧ OW E u ∧ XT E xo n m h sn sm sh u ∧ XQ E b u ∧ Gr (fun a _ => ZX xo b w a) w u := by
  have hb := hX.hbb
  have hxo := hX.hb
  have hx1 := hX.hk
  have hxb := hX.1.2.1
  have lo : ∀ a i, ZN E xo b w a i → (eB E : Int) ≤ a := fun a i z => by
    rcases z with z | z | z <;> omega
  refine ⟨ZN.xi hX hG, hO.gr hG lo, hT.gr hX hO hG (fun a i z => ⟨lo a i z, Or.inl ?_⟩) (fun i z => ?_), hQ.gr hG (fun i => ZN.no hX (by omega) (by omega) i) (fun a i ha z => ?_) (fun a i ha z => ?_), hG.wk (fun a i z => ?_)⟩
  · rcases z with z | z | z
    · exact Or.inl z.1
    · exact Or.inr (Or.inl (by omega))
    · exact Or.inr (Or.inr (Or.inr z.1))
  · rcases z with z | z | z
    · omega
    · omega
    · rw [hx1] at z; unfold pk at z; omega
  · have hk21 := hX.kk 21 (by decide) (c := 9) rfl
    rcases z with z | z | z
    · rw [z.1, hx1] at ha; unfold qk at ha; omega
    · rw [z, hk21] at ha; unfold qk at ha; omega
    · rw [z.1] at ha; unfold pk qk at ha; omega
  · have hk21 := hX.kk 21 (by decide) (c := 9) rfl
    rcases z with z | z | z
    · rw [z.1, hx1] at ha; omega
    · rw [z, hk21] at ha; omega
    · rw [ha] at z; unfold pk at z; omega
  · rcases z with z | z | z
    · exact Or.inl (Or.inl z.1)
    · exact Or.inl (Or.inr (by omega))
    · exact Or.inr (Or.inr (by rw [z.1]; unfold pk; omega))
theorem ZN.xx (H : XX E xo b n m h sn sm sh e w) (hG : Gr (ZN E xo b w) w u) : XI E xo b u ∧ OW E u ∧ XT E xo n m h sn sm sh u ∧ XQ E b u ∧ Gr (fun a _ => ZX xo b w a) w u := ZN.xxB H.1 H.2.1 H.2.2.1 H.2.2.2.1 hG
theorem wtN_ge : ∀ k : Nat, k + 1 ≤ wtN k
  | 0 => Nat.le_refl _
  | k + 1 => by
    have := wtN_ge k
    show _ ≤ 1 + (k + 1) * wtN k
    have h1 : (k + 1) * 1 ≤ (k + 1) * wtN k := Nat.mul_le_mul_left _ (by omega)
    omega
theorem hd_in {rk : Int → Int} {S : Int → Prop} {s : Int} (hQ : PQ E u q k s S rk) (hs : 1 ≤ s) : S (rdw u (rdw u q 0) 0) := (hQ.2.2.1.2 _).mpr ⟨0, by omega, by omega, rfl⟩
theorem c_o_nextSum (hH : XX E xo b n m h sn sm sh e w) : Call E mX1_nextSum 9 3915 15513 [vR xo] w (qC (if e.k < 0 then 3 else if e.k = (pmN n.toNat).length then 4 else 0) ((nxP (tC m h) e.ls e.lp (pmN n.toNat) (pmN n.toNat).length).1) (fun w' => XX E xo b n m h sn sm sh (nxE e (nxP (tC m h) e.ls e.lp (pmN n.toNat) (pmN n.toNat).length)) w' ∧ Gr (fun a _ => ZX xo b w a) w w') w) := by
  refine call_of (av := [(1, xo)]) (by decide +kernel) rfl (Nat.le_of_ble_eq_true rfl) ?_
  intro X hX hF hname
  show GG X 3915 15513 w 0 [(1, xo), (9, 0)] []
  have hX0 := hH.1
  have hV := hH.1
  have hn0 := hH.2.2.1.1.2.1
  have hC := hH.2.2.1.bCn
  have hf0w := hH.2.2.1.1.1.1
  have hE : (e.k = -1 ∧ rdw w xo 23 = 0) ∨ (0 ≤ e.k ∧ rdw w xo 23 = 1) := by
    rcases hH.2.2.2.2 with z | z
    · exact Or.inl ⟨z.1, z.2.1⟩
    · exact Or.inr ⟨z.1, z.2.1⟩
  refine g_aload_n (pc' := 1) hX dX1_nextSum_0 rfl rfl ?_
  refine gf_X1_147 (pc' := 4) hX dX1_nextSum_1 hV.h0 hV.hk rfl ?_
  refine gS1UX (pc' := 7) hX dX1_nextSum_4 ml_X1_209 (c_k_needState (by omega)) (Nat.le_of_ble_eq_true rfl) (by decide) ⟨by omega, by omega⟩ rfl (fun w4 q4 => ?_) (fun k2 w2 hk0 hq => by
    obtain ⟨rfl, hz4, hG4⟩ := hq
    exact g_outX hX hF hk0 ⟨by (repeat' split) <;> omega, hG4⟩)
  obtain ⟨hz4, hw4⟩ := q4
  rw [hw4]
  obtain ⟨hk0, f23, f24, hn, L0, hEL0⟩ : 0 ≤ e.k ∧ rdw w xo 23 = 1 ∧ rdw w xo 24 = e.k ∧ (1 ≤ n ∧ n ≤ 6) ∧ ∃ L, ENL E xo b n (tC m h) e L w := by
    rcases hH.2.2.2.2 with z | z
    · have := z.1; omega
    · exact ⟨z.1, z.2.1, z.2.2.1, z.2.2.2⟩
  refine g_aload_n (pc' := 8) hX dX1_nextSum_7 rfl rfl ?_
  refine gf_X1_85 (pc' := 11) hX dX1_nextSum_8 hV.h0 hV.hk rfl ?_
  rw [hV.f 20 (by decide) (show xF 20 = 21 from rfl)]
  refine gV0E0 (pc' := 14) hX dX1_nextSum_11 ml_X1_336 gc_J9 (by have := hV.b0; omega) (hV.kk 21 (by decide) (show xK b 21 = 9 from rfl)) (c_j_size hEL0.1) (Nat.le_of_ble_eq_true rfl) (by decide) rfl ?_
  have hwt0 := hEL0.2.2.2.2.2.2.2.2.1
  have hcl0 := wtL_ge (w := w) (n := n.toNat) (L := L0)
  refine g_if_ne (pc' := 17) (tgt := 25) hX dX1_nextSum_14 (by decide) rfl (by omega) (fun h14 => ?_) (fun h14 => ?_)
  · skip
    have loop : ∀ (f : Nat) (u : Wd) (L : List Int), Gr (ZN E xo b w) w u → (∀ i, rdw u xo i = rdw w xo i) → ENL E xo b n (tC m h) e L u → 1 ≤ (L.length : Int) → wtL u n.toNat L < f → GG X (2 * (wtL u n.toNat L - L.length)) (4 * (wtL u n.toNat L - L.length) + gsP (lnw u (rdw u (b + 21) 0))) u 25 [(1, xo), (9, 0)] [] := by
      intro f
      induction f with
      | zero => intro u L hG hxs hEL hL1 hf; exact absurd hf (by omega)
      | succ f ih =>
        intro u L hG hxs hEL hL1 hf
        have hV : XI E xo b u := ZN.xi hX0 hG
        have hf0u : rdw u xo 0 = n := (hxs 0).trans hf0w
        have hka : kdw u (rdw u (b + 21) 0) = pk b := hEL.1.2.1.2.1
        have h21k : kdw u (b + 21) = 9 := hV.kk 21 (by decide) (show xK b 21 = 9 from rfl)
        have hpp := hEL.2.2.2.2.2.1
        have hpv : ∀ r ∈ L, PV4 u r := fun r hr => by obtain ⟨π', h⟩ := hpp r hr; exact h.1
        have hwt := hEL.2.2.2.2.2.2.2.2.1
        have hcl := wtL_ge (w := u) (n := n.toNat) (L := L)
        obtain ⟨H0, hH0⟩ : ∃ H0, H0 = rdw u (rdw u (b + 21) 0) 0 := ⟨_, rfl⟩
        have hHL : H0 ∈ L := by rw [hH0]; exact hd_in hEL.1 hL1
        obtain ⟨π, hPh⟩ := hpp H0 hHL
        have hPl := hPh.2.1.2.1
        refine g_aload_n (pc' := 26) hX dX1_nextSum_25 rfl rfl ?_
        refine gf_X1_85 (pc' := 29) hX dX1_nextSum_26 hV.h0 hV.hk rfl ?_
        rw [hV.f 20 (by decide) (show xF 20 = 21 from rfl)]
        refine gV0EA0 (pc' := 32) hX dX1_nextSum_29 ml_X1_341 gc_J9 (by have := hV.b0; omega) (hV.kk 21 (by decide) (show xK b 21 = 9 from rfl)) (c_j_peek hEL.1) (Nat.le_of_ble_eq_true rfl) (by decide) rfl ?_
        rw [← hH0]
        refine g_cast (pc' := 35) hX dX1_nextSum_32 gc_X6 q1450 hPh.1.1.1 hPh.1.1.2 rfl ?_
        refine gf_X1_330 (pc' := 38) hX dX1_nextSum_35 hPh.1.1.1 hPh.1.1.2 rfl ?_
        rw [hPh.2.1.1]
        refine g_aload_n (pc' := 39) hX dX1_nextSum_38 rfl rfl ?_
        refine gf_X1_7 (pc' := 42) hX dX1_nextSum_39 hV.h0 hV.hk rfl ?_
        rw [hf0u]
        refine g_icmp_ge (pc' := 45) (tgt := 62) hX dX1_nextSum_42 (by decide) rfl (by omega) (by omega) (fun h42 => ?_) (fun h42 => ?_)
        · skip
          refine g_aload_n (pc' := 63) hX dX1_nextSum_62 rfl rfl ?_
          refine gf_X1_85 (pc' := 66) hX dX1_nextSum_63 hV.h0 hV.hk rfl ?_
          rw [hV.f 20 (by decide) (show xF 20 = 21 from rfl)]
          refine gV0A (pc' := 69) hX dX1_nextSum_66 ml_X1_256 gc_J9 (by have := hV.b0; omega) (hV.kk 21 (by decide) (show xK b 21 = 9 from rfl)) (c_j_poll hEL.1 (by omega) ml_J9_149_X3 gc_X3 (by have := hV.b0; omega) (hV.kk 22 (by decide) (show xK b 22 = 6 from rfl)) (fun r hr => ⟨okr_k (hpv r hr).1.2 (by omega), (hpv r hr).1.1⟩) (CMG_P (by have := hV.b0; omega) (hV.kk 22 (by decide) (show xK b 22 = 6 from rfl)) (fun r hr => ⟨hpv r hr, fun z => by
            have hr4 := (hpv r hr).1.2
            rcases z with z | z
            · rw [z, h21k] at hr4; omega
            · rw [z, hka] at hr4; unfold pk at hr4; omega⟩))) (Nat.le_of_ble_eq_true rfl) (by decide) (by omega) rfl (fun r66 w66 q66 => ?_)
          obtain ⟨hr0, hrL, hrm, hPQp, hGp, hq0p⟩ := q66
          rw [← hH0] at hr0
          have hGz : Gr (ZN E xo b u) u w66 := hGp.gr.wk (fun a i z => by
            rcases z with z | z
            · exact Or.inr (Or.inl z)
            · exact Or.inr (Or.inr ⟨by rw [z]; exact hka, by rw [z]; exact hEL.1.2.1.1⟩))
          have hVp := ZN.xi hV hGz
          have hxp : ∀ i, rdw w66 xo i = rdw w xo i := fun i => by
            rw [hGp.gr.rd (by rw [hV.hk]; decide) (fun z => by
              rcases z with z | z
              · have := hV.1.2.1; omega
              · have h1 := hV.hk; rw [z, hka] at h1; unfold pk at h1; omega)]
            exact hxs i
          have hset : (fun x => x ∈ L ∧ x ≠ r66) = (fun x => x ∈ L.erase r66) := funext (fun x => propext ⟨fun z => (List.Nodup.mem_erase_iff hEL.2.1).mpr ⟨z.2, z.1⟩, fun z => ⟨((List.Nodup.mem_erase_iff hEL.2.1).mp z).2, ((List.Nodup.mem_erase_iff hEL.2.1).mp z).1⟩⟩)
          have hle := List.length_erase_of_mem hrL
          have hPQp := hPQp.rk (rk' := rkP w66) (fun r hr => ((hpv r hr.1).gr hGz (fun i => ZN.n4 hV (hpv r hr.1).1.2)).2.1)
          rw [hset, show (L.length : Int) - 1 = ((L.erase r66).length : Int) by omega] at hPQp
          rw [← hr0] at hPh
          have hPhp : PP w66 b n.toNat r66 π := ZN.pp hV hGz (by omega) hPh
          have hlnp : lnw w66 (rdw w66 (b + 21) 0) = lnw u (rdw u (b + 21) 0) := by rw [hq0p, hGp.gr.ln (by rw [hka]; unfold pk; omega)]
          have hwe := wtL_er (w := u) (n := n.toNat) hrL
          rw [hPh.2.1.1, Int.toNat_natCast] at hwe
          have hwg := wtN_ge (n.toNat - π.length)
          have hwl := wtL_ge (w := u) (n := n.toNat) (L := L.erase r66)
          refine g_cast (pc' := 72) hX dX1_nextSum_69 gc_X6 q1450 hPhp.1.1.1 hPhp.1.1.2 rfl ?_
          refine g_astore_n_1 (pc' := 73) hX dX1_nextSum_72 (by decide) rfl rfl ?_
          refine g_aload_n (pc' := 74) hX dX1_nextSum_73 rfl rfl ?_
          refine g_dup (pc' := 75) hX dX1_nextSum_74 (vR_cat _) rfl ?_
          refine gf_X1_151 (pc' := 78) hX dX1_nextSum_75 hVp.h0 hVp.hk rfl ?_
          rw [hxp 24, f24]
          refine g_iconst (pc' := 79) hX dX1_nextSum_78 rfl ?_
          refine g_iadd (pc' := 80) hX dX1_nextSum_79 rfl ?_
          refine pf_X1_151 (pc' := 83) hX dX1_nextSum_80 hVp.hb hVp.hk rfl ?_
          have hxb := hVp.1.2.1
          have hA1 : Gr (fun a k => a = xo ∧ k = 24) w66 (upw w66 xo 24 (e.k + 1)) := Gr.rf.up ⟨rfl, rfl⟩
          have g24 : ∀ i, rdw (upw w66 xo 24 (e.k + 1)) xo i = if i = 24 then e.k + 1 else rdw w66 xo i := fun i => by
            by_cases hi : i = 24
            · rw [rd_up_eq ⟨rfl, hi⟩, if_pos hi]
            · rw [rd_up_ne (by omega), if_neg hi]
          generalize upw w66 xo 24 (e.k + 1) = w1 at *
          have hZ1 : Gr (ZN E xo b u) u w1 := hGz.trN hA1 (fun a i hk z => Or.inl ⟨z.1, Or.inl z.2⟩)
          have hV1 := ZN.xi hV hZ1
          have hPh1 : PP w1 b n.toNat r66 π := ZN.pp hV hZ1 (by omega) hPh
          refine g_aload_n (pc' := 84) hX dX1_nextSum_83 rfl rfl ?_
          refine g_aload_n (pc' := 85) hX dX1_nextSum_84 rfl rfl ?_
          refine gf_X1_333 (pc' := 88) hX dX1_nextSum_85 hPh1.1.1.1 hPh1.1.1.2 rfl ?_
          first
            | rw [hPh1.2.2.2.1]
            | (repeat rw [rd_up_ne (by omega)]); rw [hPh1.2.2.2.1]
          refine pf_X1_154 (pc' := 91) hX dX1_nextSum_88 hV1.hb hV1.hk rfl ?_
          have hA2 : Gr (fun a k => a = xo ∧ k = 25) w1 (upw w1 xo 25 (cd 0 π)) := Gr.rf.up ⟨rfl, rfl⟩
          have g25 : ∀ i, rdw (upw w1 xo 25 (cd 0 π)) xo i = if i = 25 then cd 0 π else rdw w1 xo i := fun i => by
            by_cases hi : i = 25
            · rw [rd_up_eq ⟨rfl, hi⟩, if_pos hi]
            · rw [rd_up_ne (by omega), if_neg hi]
          generalize upw w1 xo 25 (cd 0 π) = w2 at *
          have hZ2 : Gr (ZN E xo b u) u w2 := hZ1.trN hA2 (fun a i hk z => Or.inl ⟨z.1, Or.inr z.2⟩)
          have hV2 := ZN.xi hV hZ2
          have hPh2 : PP w2 b n.toNat r66 π := ZN.pp hV hZ2 (by omega) hPh
          have hA : Gr (fun a k => a = xo ∧ (k = 24 ∨ k = 25)) w66 w2 := (hA1.wk (fun a k z => ⟨z.1, Or.inl z.2⟩)).trN hA2 (fun a k _ z => ⟨z.1, Or.inr z.2⟩)
          have hq2 := hPQp.gr hA (fun i z => by omega) (fun i z => by
            have h1 := hPQp.2.1.2.1
            have h2 := hVp.hk
            rw [z.1, h2] at h1; omega)
          have hpvp : ∀ r ∈ L.erase r66, PV4 w66 r := fun r hr => ((hpv r ((List.Nodup.mem_erase_iff hEL.2.1).mp hr).2).gr hGz (fun i => ZN.n4 hV (hpv r ((List.Nodup.mem_erase_iff hEL.2.1).mp hr).2).1.2)).1
          have hq2' := hq2.1.rk (rk' := rkP w2) (fun r hr => ((hpvp r hr).gr hA (fun i z => by
            have h1 := (hpvp r hr).1.2
            have h2 := hVp.hk
            rw [z.1, h2] at h1; omega)).2.1)
          have hln2 : lnw w2 (rdw w2 (b + 21) 0) = lnw u (rdw u (b + 21) 0) := by
            rw [hq2.2, hA.ln (by have h1 := hPQp.2.1.2.1; omega)]; exact hlnp
          have h22 : rdw w2 xo 22 = rdw u xo 22 := by rw [g25, if_neg (by omega), g24, if_neg (by omega), hxp 22, hxs 22]
          have hnx := hEL.next hV hn hC hrL hrm hPh (by omega) hZ2 hq2' (by rw [hln2]; exact hEL.2.2.1) h22 (by rw [g25, if_pos rfl]; exact hPh.2.2.2.1.symm)
          have hx := ZN.xx hH (ZN.tr hG hZ2)
          refine g_aload_n (pc' := 92) hX dX1_nextSum_91 rfl rfl ?_
          refine gf_X1_316 (pc' := 95) hX dX1_nextSum_92 hV2.h0 hV2.hk rfl ?_
          rw [h22]
          repeat (first | rw [rd_up_ne (by omega)] | rw [rd_up_eq (by omega)])
          refine g_aload_n (pc' := 96) hX dX1_nextSum_95 rfl rfl ?_
          refine gf_X1_327 (pc' := 99) hX dX1_nextSum_96 hPh2.1.1.1 hPh2.1.1.2 rfl ?_
          first
            | rw [(((hpv r66 hrL).gr hZ2 (fun i => ZN.n4 hV (hpv r66 hrL).1.2)).2.2 0)]
            | (repeat rw [rd_up_ne (by omega)]); rw [(((hpv r66 hrL).gr hZ2 (fun i => ZN.n4 hV (hpv r66 hrL).1.2)).2.2 0)]
          refine g_iadd (pc' := 100) hX dX1_nextSum_99 rfl ?_
          exact g_retIX hX hF dX1_nextSum_100 ⟨by rw [if_neg (by omega), if_neg (by omega)], hnx.1, ⟨hx.1, hx.2.1, hx.2.2.1, hx.2.2.2.1, Or.inr ⟨by show 0 ≤ e.k + 1; omega, by rw [g25, if_neg (by omega), g24, if_neg (by omega), hxp 23]; exact f23, by rw [g25, if_neg (by omega), g24, if_pos rfl]; rfl, hn, _, hnx.2.2⟩⟩, hx.2.2.2.2⟩
        · skip
          refine g_aload_n (pc' := 46) hX dX1_nextSum_45 rfl rfl ?_
          refine g_aload_n (pc' := 47) hX dX1_nextSum_46 rfl rfl ?_
          refine gf_X1_85 (pc' := 50) hX dX1_nextSum_47 hV.h0 hV.hk rfl ?_
          rw [hV.f 20 (by decide) (show xF 20 = 21 from rfl)]
          refine gV0A (pc' := 53) hX dX1_nextSum_50 ml_X1_256 gc_J9 (by have := hV.b0; omega) (hV.kk 21 (by decide) (show xK b 21 = 9 from rfl)) (c_j_poll hEL.1 (by omega) ml_J9_149_X3 gc_X3 (by have := hV.b0; omega) (hV.kk 22 (by decide) (show xK b 22 = 6 from rfl)) (fun r hr => ⟨okr_k (hpv r hr).1.2 (by omega), (hpv r hr).1.1⟩) (CMG_P (by have := hV.b0; omega) (hV.kk 22 (by decide) (show xK b 22 = 6 from rfl)) (fun r hr => ⟨hpv r hr, fun z => by
            have hr4 := (hpv r hr).1.2
            rcases z with z | z
            · rw [z, h21k] at hr4; omega
            · rw [z, hka] at hr4; unfold pk at hr4; omega⟩))) (Nat.le_of_ble_eq_true rfl) (by decide) (by omega) rfl (fun r50 w50 q50 => ?_)
          obtain ⟨hr0, hrL, hrm, hPQp, hGp, hq0p⟩ := q50
          rw [← hH0] at hr0
          have hGz : Gr (ZN E xo b u) u w50 := hGp.gr.wk (fun a i z => by
            rcases z with z | z
            · exact Or.inr (Or.inl z)
            · exact Or.inr (Or.inr ⟨by rw [z]; exact hka, by rw [z]; exact hEL.1.2.1.1⟩))
          have hVp := ZN.xi hV hGz
          have hxp : ∀ i, rdw w50 xo i = rdw w xo i := fun i => by
            rw [hGp.gr.rd (by rw [hV.hk]; decide) (fun z => by
              rcases z with z | z
              · have := hV.1.2.1; omega
              · have h1 := hV.hk; rw [z, hka] at h1; unfold pk at h1; omega)]
            exact hxs i
          have hset : (fun x => x ∈ L ∧ x ≠ r50) = (fun x => x ∈ L.erase r50) := funext (fun x => propext ⟨fun z => (List.Nodup.mem_erase_iff hEL.2.1).mpr ⟨z.2, z.1⟩, fun z => ⟨((List.Nodup.mem_erase_iff hEL.2.1).mp z).2, ((List.Nodup.mem_erase_iff hEL.2.1).mp z).1⟩⟩)
          have hle := List.length_erase_of_mem hrL
          have hPQp := hPQp.rk (rk' := rkP w50) (fun r hr => ((hpv r hr.1).gr hGz (fun i => ZN.n4 hV (hpv r hr.1).1.2)).2.1)
          rw [hset, show (L.length : Int) - 1 = ((L.erase r50).length : Int) by omega] at hPQp
          rw [← hr0] at hPh
          have hPhp : PP w50 b n.toNat r50 π := ZN.pp hV hGz (by omega) hPh
          have hlnp : lnw w50 (rdw w50 (b + 21) 0) = lnw u (rdw u (b + 21) 0) := by rw [hq0p, hGp.gr.ln (by rw [hka]; unfold pk; omega)]
          have hwe := wtL_er (w := u) (n := n.toNat) hrL
          rw [hPh.2.1.1, Int.toNat_natCast] at hwe
          have hwg := wtN_ge (n.toNat - π.length)
          have hwl := wtL_ge (w := u) (n := n.toNat) (L := L.erase r50)
          refine g_cast (pc' := 56) hX dX1_nextSum_53 gc_X6 q1450 hPhp.1.1.1 hPhp.1.1.2 rfl ?_
          have hcP := hEL.2.2.1
          have hc11 : 11 ≤ lnw u (rdw u (b + 21) 0) := by unfold capP at hcP; omega
          have hgr : ¬ ((L.erase r50).length : Int) + (n.toNat - π.length) ≤ lnw u (rdw u (b + 21) 0) → lnw u (rdw u (b + 21) 0) ≤ 2000 := fun z => by omega
          have hms : (4 * (n.toNat - π.length) + (if ((L.erase r50).length : Int) + (n.toNat - π.length) ≤ lnw w50 (rdw w50 (b + 21) 0) then 0 else (pqN (lnw w50 (rdw w50 (b + 21) 0))).toNat)) ≤ 4 * (wtL u n.toNat L - L.length) + gsP (lnw u (rdw u (b + 21) 0)) := by
            rw [hlnp]
            by_cases z : ((L.erase r50).length : Int) + (n.toNat - π.length) ≤ lnw u (rdw u (b + 21) 0)
            · rw [if_pos z]; omega
            · rw [if_neg z]
              have := gsP_s hcP (hgr z)
              omega
          refine gV1U (pc' := 59) hX dX1_nextSum_56 ml_X1_344 gc_X1 hVp.h0 hVp.hk (c_s_goOn hVp ((hxp 0).trans hf0w) hn hPhp (by omega) (fun r hr => ((hpv r ((List.Nodup.mem_erase_iff hEL.2.1).mp hr).2).gr hGz (fun i => ZN.n4 hV (hpv r ((List.Nodup.mem_erase_iff hEL.2.1).mp hr).2).1.2)).1) hPQp (hEL.2.1.erase _) (by rw [hlnp]; exact hEL.2.2.1) (fun i j i0 i1 j0 j1 => by rw [ZN.rd hV hGz i0 (by omega)]; exact hEL.2.2.2.1 i j i0 i1 j0 j1) (by omega)) (Nat.le_of_ble_eq_true rfl) (by decide) ⟨by omega, hms⟩ rfl (fun w56 q56 => ?_)
          obtain ⟨hG56, Ch, hQ56, hn56, hc1, hc2, hc3, hcl56, hln56, hx56'⟩ := q56
          have hGz2 : Gr (ZN E xo b u) u w56 := ZN.tr hGz hG56
          have hx56 : ∀ i, rdw w56 xo i = rdw w xo i := fun i => (hx56' i).trans (hxp i)
          have hcap56 : capP (lnw w56 (rdw w56 (b + 21) 0)) := by
            rw [hln56, hlnp]
            split
            · exact hcP
            · rename_i z; exact (capP_s hcP (hgr z)).1
          have hexp := hEL.expand hV hn hrL hPh (by omega) hGz2 hQ56 hn56 hcap56 hc1 hc2 hc3 hcl56 ((hx56 22).trans (hxs 22).symm) ((hx56 25).trans (hxs 25).symm)
          have hbud : 4 * (wtL w56 n.toNat (Ch ++ L.erase r50) - (Ch.length + (L.erase r50).length)) + gsP (lnw w56 (rdw w56 (b + 21) 0)) ≤ 4 * (wtL u n.toNat L - L.length) + gsP (lnw u (rdw u (b + 21) 0)) - (4 * (n.toNat - π.length) + (if ((L.erase r50).length : Int) + (n.toNat - π.length) ≤ lnw w50 (rdw w50 (b + 21) 0) then 0 else (pqN (lnw w50 (rdw w50 (b + 21) 0))).toNat)) := by
            rw [hln56, hlnp]
            by_cases z : ((L.erase r50).length : Int) + (n.toNat - π.length) ≤ lnw u (rdw u (b + 21) 0)
            · rw [if_pos z, if_pos z]; omega
            · rw [if_neg z, if_neg z]
              have := gsP_s hcP (hgr z)
              omega
          refine g_goto (tgt := 25) hX dX1_nextSum_59 (by decide) ?_
          exact GG_less (ih w56 (Ch ++ L.erase r50) (hG.trN hGz2 (fun a i hk z => by
            unfold ZN at z ⊢
            rw [hG.kd hk] at z; exact z)) hx56 hexp.1 (by rw [List.length_append]; omega) (by omega)) (by rw [List.length_append]; omega) (by rw [List.length_append]; exact hbud)
    exact GG_less (loop 5000 w L0 Gr.rf (fun _ => rfl) hEL0 (by omega) (by omega)) (by omega) (by have := gsP_b (c := lnw w (rdw w (b + 21) 0)); omega)
  · skip
    have hL0 : L0 = [] := List.length_eq_zero_iff.mp (by omega)
    have hek : e.k = (pmN n.toNat).length := by
      obtain ⟨-, -, -, -, -, -, cv, -, -, ct, -⟩ := hEL0
      rw [ct]
      have : (List.range (pmN n.toNat).length).countP (fun t => decide (¬ (e.ls < ps (tC m h) 0 ((pmN n.toNat).getD t []) ∨ (ps (tC m h) 0 ((pmN n.toNat).getD t []) = e.ls ∧ e.lp < t)))) = (List.range (pmN n.toNat).length).length := List.countP_eq_length.mpr (fun t ht => by
        refine decide_eq_true (fun z => ?_)
        obtain ⟨r, hr, -⟩ := (cv t (List.mem_range.mp ht)).mp z
        rw [hL0] at hr
        cases hr)
      rw [this, List.length_range]
    refine g_throw0 hX hF (k := 4) (by decide) lt_ns dX1_nextSum_17 dX1_nextSum_20 dX1_nextSum_21 dX1_nextSum_24 (by decide) (by omega) (by omega) (Nat.le_of_ble_eq_true rfl) (fun s hs => Or.inr ⟨by decide, by rw [if_neg (by omega), if_pos hek]; rfl, Gr.rf.szU hs⟩)

end S15S
