/-! THE SOLVER: loading, reduced costs, the queue of ways (by gen/spec_s1.py) -/
set_option maxRecDepth 100000
set_option maxHeartbeats 4000000
section S1S
variable {X : Cx} {bc bs pc : Nat} {lv : List (Nat × Int)} {st : List Value} {E : Ev} {w w0 u u' : Wd} {P : Int → Int → Prop} {T r c n m sn sm l i j k v a z xo b it x sz s fd : Int} {h h' sh C0 : Int → Int → Int} {f g : Int → Int} {e : En} {S : Int → Prop}
theorem XI.c0 (H : XI E xo b u) (hi : 0 ≤ i ∧ i < 7) : rdw u (b + 0) i = b + 1 + i := by rw [Int.add_zero]; exact (H.2.2.2.2 i hi.1 hi.2).1
theorem XI.c24 (H : XI E xo b u) (hi : 0 ≤ i ∧ i < 7) : rdw u (b + 24) i = b + 25 + i := (H.2.2.2.2 i hi.1 hi.2).2
theorem XI.ck (H : XI E xo b u) (hi : 0 ≤ i ∧ i < 7) : kdw u (b + 1 + i) = 50 := by
  have := H.2.1 (1 + i) (by omega) (by omega)
  rw [show b + (1 + i) = b + 1 + i by omega] at this
  rw [this]; unfold xK; (repeat' split) <;> omega
theorem XI.cl (H : XI E xo b u) (hi : 0 ≤ i ∧ i < 7) : lnw u (b + 1 + i) = 7 := by
  have := H.2.2.1 (1 + i) (by omega) (by omega) (by omega)
  rw [show b + (1 + i) = b + 1 + i by omega] at this
  rw [this]; unfold xL; split <;> omega
theorem XI.rk (H : XI E xo b u) (hi : 0 ≤ i ∧ i < 7) : kdw u (b + 25 + i) = 50 := by
  have := H.2.1 (25 + i) (by omega) (by omega)
  rw [show b + (25 + i) = b + 25 + i by omega] at this
  rw [this]; unfold xK; (repeat' split) <;> omega
theorem XI.rl (H : XI E xo b u) (hi : 0 ≤ i ∧ i < 7) : lnw u (b + 25 + i) = 7 := by
  have := H.2.2.1 (25 + i) (by omega) (by omega) (by omega)
  rw [show b + (25 + i) = b + 25 + i by omega] at this
  rw [this]; unfold xL; split <;> omega
theorem XI.step (H : XI E xo b u) (hF : Fr P w0 u) (hn : (a = xo → i < 7 ∨ i = 16 ∨ 21 < i) ∧ a ≠ b ∧ a ≠ b + 24) (hp : P a i) (K : XI E xo b (upw u a i x) → Fr P w0 (upw u a i x) → GG X bc bs (upw u a i x) pc lv st) : GG X bc bs (upw u a i x) pc lv st :=
  K (H.gr (P := fun c k => c = a ∧ k = i) (Gr.rf.up ⟨rfl, rfl⟩) (fun k z => by have := hn.1 z.1.symm; omega) (fun k z => by omega) (fun k z => by omega)) (hF.up hp)
theorem XI.stepG (H : XI E xo b u) (hF : Gr P w0 u) (hn : (a = xo → i < 7 ∨ i = 16 ∨ 21 < i) ∧ a ≠ b ∧ a ≠ b + 24) (hp : P a i) (K : XI E xo b (upw u a i x) → Gr P w0 (upw u a i x) → GG X bc bs (upw u a i x) pc lv st) : GG X bc bs (upw u a i x) pc lv st :=
  K (H.gr (P := fun c k => c = a ∧ k = i) (Gr.rf.up ⟨rfl, rfl⟩) (fun k z => by have := hn.1 z.1.symm; omega) (fun k z => by omega) (fun k z => by omega)) (hF.up hp)
/-- kinds in the zone of the arrays -/
theorem XI.kq (H : XI E xo b u) (hk : 0 ≤ k ∧ k ≤ 31) (h17 : k ≠ 17) : kdw u (b + k) ≠ qk b := by
  have hb := H.b0
  rw [H.2.1 k hk.1 hk.2]
  unfold xK qk pk
  (repeat' split) <;> omega
/-- where paths are written -/
def ZQ (E : Ev) (xo b : Int) (w : Wd) (a i : Int) : Prop := (a = xo ∧ i = 16) ∨ a = b + 12 ∨ a = b + 13 ∨ a = b + 14 ∨ a = b + 15 ∨ (kdw w a = qk b ∧ (eB E : Int) ≤ a)
theorem ZQ.no (H : XI E xo b u) (hk : 0 ≤ k ∧ k ≤ 31) (hn : k ≠ 12 ∧ k ≠ 13 ∧ k ≠ 14 ∧ k ≠ 15 ∧ k ≠ 17) : ¬ ZQ E xo b u (b + k) i := by
  have h1 := H.kq hk hn.2.2.2.2
  have h2 := H.1.2.1
  have h3 := H.b0
  rintro (z | z | z | z | z | z)
  · omega
  · omega
  · omega
  · omega
  · omega
  · exact h1 z.1
theorem ZQ.nx (H : XI E xo b u) (hi : i ≠ 16) : ¬ ZQ E xo b u xo i := by
  have h2 := H.1.2.1
  have h3 := H.hk
  rintro (z | z | z | z | z | z)
  · omega
  · omega
  · omega
  · omega
  · omega
  · rw [h3] at z; unfold qk at z; omega
theorem XI.zq (H : XI E xo b w) (hG : Gr (ZQ E xo b w) w u) : XI E xo b u :=
  H.gr hG (fun i z => by
    by_cases hi : i = 16
    · exact Or.inr (Or.inl hi)
    · exact absurd z (ZQ.nx H hi)) (fun i z => by
    have := ZQ.no (i := i) H (k := 0) (by omega) (by omega)
    rw [Int.add_zero] at this
    exact this z) (fun i => ZQ.no H (by omega) (by omega))
theorem ZQ.tr (hG : Gr (ZQ E xo b w) w u) (hG2 : Gr (ZQ E xo b u) u u') : Gr (ZQ E xo b w) w u' := hG.trN hG2 (fun a i hk z => by
  unfold ZQ at z ⊢
  rw [hG.kd hk] at z; exact z)
theorem ZQ.kp (H : XI E xo b w) (hG : Gr (ZQ E xo b w) w u) (hk : 0 ≤ k ∧ k ≤ 31) (hn : k ≠ 12 ∧ k ≠ 13 ∧ k ≠ 14 ∧ k ≠ 15 ∧ k ≠ 17) (i : Int) : rdw u (b + k) i = rdw w (b + k) i := hG.rd (by rw [H.2.1 k hk.1 hk.2]; exact xK_ne _ _) (ZQ.no H hk hn)
theorem ZQ.kx (H : XI E xo b w) (hG : Gr (ZQ E xo b w) w u) (hi : i ≠ 16) : rdw u xo i = rdw w xo i := hG.rd (by rw [H.hk]; decide) (ZQ.nx H hi)
theorem ZQ.ck (H : XI E xo b w) (hG : Gr (ZQ E xo b w) w u) (hi : 0 ≤ i ∧ i < 7) (j : Int) : rdw u (b + 1 + i) j = rdw w (b + 1 + i) j := by
  have := ZQ.kp H hG (k := 1 + i) (by omega) (by omega) j
  rw [show b + (1 + i) = b + 1 + i by omega] at this
  exact this
theorem ZQ.zw {i : Int} (hz : ZQ E xo b w a i) : ZW E xo b w a i := by
  rcases hz with z | z | z | z | z | z
  · exact Or.inl ⟨z.1, Or.inr z.2⟩
  · exact Or.inr (Or.inl (by omega))
  · exact Or.inr (Or.inl (by omega))
  · exact Or.inr (Or.inl (by omega))
  · exact Or.inr (Or.inl (by omega))
  · exact Or.inr (Or.inr z)
/-- the queue and what it tells: s ways S, fd were found -/
def QS (E : Ev) (xo b sz : Int) (w : Wd) (s : Int) (S : Int → Prop) (fd : Int) : Prop :=
  PQ E w (b + 15) (b + 16) s S (rkW w) ∧
  (∀ r, S r → WV w r ∧ rdw w r 2 < sz ∧ rdw w (b + 12) (rdw w r 2) ≤ rdw w r 0) ∧
  (rdw w xo 16 = fd ∧ 0 ≤ fd ∧ fd ≤ 60 ∧ s ≤ fd) ∧
  (lnw w (rdw w (b + 15) 0) = 11 ∨ lnw w (rdw w (b + 15) 0) = 24 ∨ lnw w (rdw w (b + 15) 0) = 50) ∧
  (∀ j : Int, 0 ≤ j → j < sz → (rdw w (b + 14) j = 0 ∨ rdw w (b + 14) j = 1) ∧ 0 ≤ rdw w (b + 12) j ∧ rdw w (b + 12) j ≤ 1048576)
/-- every open end that is reached has its way; but x -/
def QO (b sz : Int) (w : Wd) (S : Int → Prop) (x : Int) : Prop := ∀ j : Int, 0 ≤ j → j < sz → j ≠ x → rdw w (b + 14) j = 0 → rdw w (b + 12) j < 1048576 → ∃ r, S r ∧ rdw w r 2 = j ∧ rdw w r 0 = rdw w (b + 12) j
theorem QS.xq (H : QS E xo b sz w s S fd) : XQ E b w := ⟨s, S, H.1, fun r hr => (H.2.1 r hr).1, H.2.2.2.1⟩
theorem c_s_reducedHere (hV : XI E xo b w) (hi : 0 ≤ i ∧ i < 7) (hj : 0 ≤ j ∧ j < 7) : Call E mX1_reducedHere 0 0 0 [vR xo, vI i, vI j] w (qE (rdw w (b + 1 + i) j - rdw w (b + 8) i - rdw w (b + 9) j) w) := by
  refine call_of (av := [(1, xo), (0, i), (0, j)]) (by decide +kernel) rfl (Nat.le_of_ble_eq_true rfl) ?_
  intro X hX hF hname
  show GG X 0 0 w 0 [(1, xo), (0, i), (0, j)] []
  refine g_aload_n (pc' := 1) hX dX1_reducedHere_0 rfl rfl ?_
  refine gf_X1_35 (pc' := 4) hX dX1_reducedHere_1 hV.h0 hV.hk rfl ?_
  rw [hV.f 7 (by decide) (show xF 7 = 0 from rfl)]
  refine g_iload_n (pc' := 5) hX dX1_reducedHere_4 rfl rfl ?_
  refine g_aaldL (pc' := 6) hX dX1_reducedHere_5 (by have := hV.b0; omega) (by rw [hV.kk 0 (by decide) (show xK b 0 = 54 from rfl)]; decide) (hV.ln 0 (by decide) (show xL 0 = 7 from rfl)) (by omega) rfl ?_
  rw [hV.c0 (by omega)]
  refine g_iload_n (pc' := 7) hX dX1_reducedHere_6 rfl rfl ?_
  refine g_ialdL (pc' := 8) hX dX1_reducedHere_7 (by have := hV.b0; omega) (hV.ck (by omega)) (hV.cl (by omega)) (by omega) rfl ?_
  refine g_aload_n (pc' := 9) hX dX1_reducedHere_8 rfl rfl ?_
  refine gf_X1_38 (pc' := 12) hX dX1_reducedHere_9 hV.h0 hV.hk rfl ?_
  rw [hV.f 8 (by decide) (show xF 8 = 8 from rfl)]
  refine g_iload_n (pc' := 13) hX dX1_reducedHere_12 rfl rfl ?_
  refine g_ialdL (pc' := 14) hX dX1_reducedHere_13 (by have := hV.b0; omega) (hV.kk 8 (by decide) (show xK b 8 = 50 from rfl)) (hV.ln 8 (by decide) (show xL 8 = 7 from rfl)) (by omega) rfl ?_
  refine g_isub (pc' := 15) hX dX1_reducedHere_14 rfl ?_
  refine g_aload_n (pc' := 16) hX dX1_reducedHere_15 rfl rfl ?_
  refine gf_X1_42 (pc' := 19) hX dX1_reducedHere_16 hV.h0 hV.hk rfl ?_
  rw [hV.f 9 (by decide) (show xF 9 = 9 from rfl)]
  refine g_iload_n (pc' := 20) hX dX1_reducedHere_19 rfl rfl ?_
  refine g_ialdL (pc' := 21) hX dX1_reducedHere_20 (by have := hV.b0; omega) (hV.kk 9 (by decide) (show xK b 9 = 50 from rfl)) (hV.ln 9 (by decide) (show xL 9 = 7 from rfl)) (by omega) rfl ?_
  refine g_isub (pc' := 22) hX dX1_reducedHere_21 rfl ?_
  exact g_retE hX hF dX1_reducedHere_22 (rfl) rfl

def zLd (xo b a i : Int) : Prop := (a = xo ∧ i = 6) ∨ (b + 1 ≤ a ∧ a ≤ b + 7)
theorem c_s_load2 (hX0 : XI E xo b w) (hO : OW E w) (hT : TB E w T r c h) (hb : 1 ≤ c ∧ c ≤ r ∧ r ≤ 7) (hh : ∀ i j : Int, 0 ≤ i → i < r → 0 ≤ j → j < c → -100 ≤ h i j ∧ h i j ≤ 99) : Call E mX1_load_2 4 0 0 [vR xo, vR T, vI r, vI c] w (qU (fun w' => XI E xo b w' ∧ Fr (zLd xo b) w w' ∧ rdw w' xo 6 = r ∧ ∀ i j : Int, 0 ≤ i → i < r → 0 ≤ j → j < r → rdw w' (b + 1 + i) j = tC c h i j)) := by
  refine call_of (av := [(1, xo), (1, T), (0, r), (0, c)]) (by decide +kernel) rfl (Nat.le_of_ble_eq_true rfl) ?_
  intro X hX hF hname
  show GG X 0 0 w 0 [(1, xo), (1, T), (0, r), (0, c), (9, 0), (9, 0)] []
  have hV := hX0
  have hW : Fr (zLd xo b) w w := Fr.rf
  have hxb := hX0.1.2.1
  refine g_aload_n (pc' := 1) hX dX1_load_2_0 rfl rfl ?_
  refine g_iload_n (pc' := 2) hX dX1_load_2_1 rfl rfl ?_
  refine pf_X1_237 (pc' := 5) hX dX1_load_2_2 hV.hb hV.hk rfl ?_
  refine hV.step hW (by omega) (by unfold zLd; omega) (fun hV hW => ?_)
  have h6 : rdw (upw w xo 6 r) xo 6 = r := rd_up_eq ⟨rfl, rfl⟩
  generalize upw w xo 6 r = u0 at *
  refine g_iconst (pc' := 6) hX dX1_load_2_5 rfl ?_
  refine g_istore_4 (pc' := 8) hX dX1_load_2_6 (by decide) rfl rfl ?_
  have loop : ∀ (f : Nat) (i : Int) (u : Wd) (x5 : Nat × Int), 0 ≤ i → i ≤ r → XI E xo b u → Fr (zLd xo b) w u → rdw u xo 6 = r → (∀ x y : Int, 0 ≤ x → x < i → 0 ≤ y → y < r → rdw u (b + 1 + x) y = tC c h x y) → r < i + f → GG X 0 0 u 8 [(1, xo), (1, T), (0, r), (0, c), (0, i), x5] [] := by
    intro f
    induction f with
    | zero => intro i u x5 i0 i1 hV hW h6 hA hf; exact absurd hf (by omega)
    | succ f ih =>
      intro i u x5 i0 i1 hV hW h6 hA hf
      refine g_iload (pc' := 10) hX dX1_load_2_8 rfl rfl ?_
      refine g_iload_n (pc' := 11) hX dX1_load_2_10 rfl rfl ?_
      refine g_icmp_ge (pc' := 14) (tgt := 55) hX dX1_load_2_11 (by decide) rfl (by omega) (by omega) (fun h11 => ?_) (fun h11 => ?_)
      · skip
        exact g_retU hX hF dX1_load_2_55 ⟨hV, hW, h6, fun x y x0 x1 y0 y1 => hA x y x0 (by omega) y0 y1⟩
      · skip
        refine g_iconst (pc' := 15) hX dX1_load_2_14 rfl ?_
        refine g_istore_5 (pc' := 17) hX dX1_load_2_15 (by decide) rfl rfl ?_
        have loop2 : ∀ (g : Nat) (j : Int) (v : Wd), 0 ≤ j → j ≤ r → XI E xo b v → Fr (zLd xo b) w v → rdw v xo 6 = r → (∀ x y : Int, 0 ≤ x → x ≤ i → 0 ≤ y → y < r → (x < i ∨ y < j) → rdw v (b + 1 + x) y = tC c h x y) → r < j + g → GG X 0 0 v 17 [(1, xo), (1, T), (0, r), (0, c), (0, i), (0, j)] [] := by
          intro g
          induction g with
          | zero => intro j v _ _ _ _ _ _ hg; exact absurd hg (by omega)
          | succ g ih2 =>
            intro j v j0 j1 hV hW h6 hB hg
            have hTv := (hT.zs hX0 hO hW.gr (fun a i z => by have h1 := hX0.hb; unfold zLd at z; exact ⟨by omega, by rcases z with z | z; exact Or.inl z.1; exact Or.inr (Or.inl (by omega))⟩)).1
            refine g_iload (pc' := 19) hX dX1_load_2_17 rfl rfl ?_
            refine g_iload_n (pc' := 20) hX dX1_load_2_19 rfl rfl ?_
            refine g_icmp_ge (pc' := 23) (tgt := 49) hX dX1_load_2_20 (by decide) rfl (by omega) (by omega) (fun h20 => ?_) (fun h20 => ?_)
            · skip
              refine g_iinc_4 (pc' := 52) hX dX1_load_2_49 (by decide) rfl rfl ?_
              refine g_goto (tgt := 8) hX dX1_load_2_52 (by decide) ?_
              rw [show j = r by omega] at hB
              exact ih (i + 1) v _ (by omega) (by omega) hV hW h6 (fun x y x0 x1 y0 y1 => hB x y x0 (by omega) y0 y1 (by omega)) (by omega)
            · skip
              refine g_aload_n (pc' := 24) hX dX1_load_2_23 rfl rfl ?_
              refine gf_X1_35 (pc' := 27) hX dX1_load_2_24 hV.h0 hV.hk rfl ?_
              rw [hV.f 7 (by decide) (show xF 7 = 0 from rfl)]
              refine g_iload (pc' := 29) hX dX1_load_2_27 rfl rfl ?_
              refine g_aaldL (pc' := 30) hX dX1_load_2_29 (by have := hV.b0; omega) (by rw [hV.kk 0 (by decide) (show xK b 0 = 54 from rfl)]; decide) (hV.ln 0 (by decide) (show xL 0 = 7 from rfl)) (by omega) rfl ?_
              rw [hV.c0 (by omega)]
              refine g_iload (pc' := 32) hX dX1_load_2_30 rfl rfl ?_
              refine g_aload_n (pc' := 33) hX dX1_load_2_32 rfl rfl ?_
              refine g_aload_n (pc' := 34) hX dX1_load_2_33 rfl rfl ?_
              refine g_iload_n (pc' := 35) hX dX1_load_2_34 rfl rfl ?_
              refine g_iload (pc' := 37) hX dX1_load_2_35 rfl rfl ?_
              refine g_iload (pc' := 39) hX dX1_load_2_37 rfl rfl ?_
              refine gV4E0 (pc' := 42) hX dX1_load_2_39 ml_X1_143 gc_X1 hV.h0 hV.hk (c_k_costIn hV hTv (by omega) (by omega) (by omega) hh) (Nat.le_of_ble_eq_true rfl) (by decide) rfl ?_
              refine g_iastL (pc' := 43) hX dX1_load_2_42 (by have := hV.hbb; omega) (hV.ck (by omega)) (hV.cl (by omega)) (by omega) rfl ?_
              refine hV.step hW (by omega) (by unfold zLd; omega) (fun hV hW => ?_)
              have h62 : rdw (upw v (b + 1 + i) j (tC c h i j)) xo 6 = r := (rd_up_ne (by omega)).trans h6
              have hB2 : ∀ x y : Int, 0 ≤ x → x ≤ i → 0 ≤ y → y < r → (x < i ∨ y < j + 1) → rdw (upw v (b + 1 + i) j (tC c h i j)) (b + 1 + x) y = tC c h x y := fun x y x0 x1 y0 y1 z => by
                by_cases he : x = i ∧ y = j
                · rw [rd_up_eq ⟨by rw [he.1], he.2⟩, he.1, he.2]
                · rw [rd_up_ne (by omega)]; exact hB x y x0 x1 y0 y1 (by omega)
              generalize upw v (b + 1 + i) j (tC c h i j) = v2 at *
              refine g_iinc_5 (pc' := 46) hX dX1_load_2_43 (by decide) rfl rfl ?_
              refine g_goto (tgt := 17) hX dX1_load_2_46 (by decide) ?_
              exact ih2 (j + 1) v2 (by omega) (by omega) hV hW h62 hB2 (by omega)
        exact loop2 9 0 u (by omega) (by omega) hV hW h6 (fun x y x0 x1 y0 y1 z => hA x y x0 (by omega) y0 y1) (by omega)
  exact loop 9 0 u0 (9, 0) (by omega) (by omega) hV hW h6 (fun x y x0 x1 y0 y1 => absurd x1 (by omega)) (by omega)

theorem c_s_load (hH : XX E xo b n m h sn sm sh e w) : Call E mX1_load 5 0 0 [vR xo] w (qU (fun w' => XI E xo b w' ∧ Fr (zLd xo b) w w' ∧ rdw w' xo 6 = n ∧ ∀ i j : Int, 0 ≤ i → i < n → 0 ≤ j → j < n → rdw w' (b + 1 + i) j = tC m h i j)) := by
  refine call_of (av := [(1, xo)]) (by decide +kernel) rfl (Nat.le_of_ble_eq_true rfl) ?_
  intro X hX hF hname
  show GG X 0 0 w 0 [(1, xo)] []
  refine g_aload_n (pc' := 1) hX dX1_load_0 rfl rfl ?_
  refine g_aload_n (pc' := 2) hX dX1_load_1 rfl rfl ?_
  refine gf_X1_20 (pc' := 5) hX dX1_load_2 hH.1.h0 hH.1.hk rfl ?_
  refine g_aload_n (pc' := 6) hX dX1_load_5 rfl rfl ?_
  refine gf_X1_7 (pc' := 9) hX dX1_load_6 hH.1.h0 hH.1.hk rfl ?_
  rw [hH.2.2.1.1.1.1]
  refine g_aload_n (pc' := 10) hX dX1_load_9 rfl rfl ?_
  refine gf_X1_13 (pc' := 13) hX dX1_load_10 hH.1.h0 hH.1.hk rfl ?_
  rw [hH.2.2.1.1.1.2.1]
  refine gV3U0 (pc' := 16) hX dX1_load_13 ml_X1_240 gc_X1 hH.1.h0 hH.1.hk (c_s_load2 hH.1 hH.2.1 hH.2.2.1.2.1.1 hH.2.2.1.1.2.1 hH.2.2.1.2.2.1) (Nat.le_of_ble_eq_true rfl) (by decide) rfl (fun w13 q13 => ?_)
  exact g_retU hX hF dX1_load_16 q13

end S1S
