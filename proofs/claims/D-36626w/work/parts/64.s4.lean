/-! THE SOLVER: one row more (by gen/spec_s4.py) -/
set_option maxRecDepth 100000
set_option maxHeartbeats 8000000
section S4S
variable {X : Cx} {bc bs pc : Nat} {lv : List (Nat × Int)} {st : List Value} {E : Ev} {w w0 u u' : Wd} {P : Int → Int → Prop} {T r c n m sn sm l i j k v a z xo b it x y sz s fd far q row base : Int} {h h' sh C C0 : Int → Int → Int} {f g : Int → Int} {e : En} {S : Int → Prop}
theorem DJ.mlt {u v ro d fr st od : Int → Int} (H : DJ n k C u v ro d fr st od m x) (h0 : 0 ≤ n) (hj : (0 ≤ j ∧ j < n) ∧ st j = 0) : m < n := by
  have h6 : sm' n.toNat st ≤ sm' n.toNat (fun i => if i = j then 0 else 1) := sm_mono (fun i i0 i1 => by
    have t := (H.2.1 i i0 (by omega)).1
    by_cases e : i = j
    · rw [if_pos e, e, hj.2]; exact Int.le_refl _
    · rw [if_neg e]; omega)
  have h7 := sm_one (f := fun _ => (1 : Int)) (g := fun i => if i = j then 0 else 1) (k := n.toNat) hj.1.1 (by omega) (fun i _ _ hi => if_neg hi)
  rw [sm_k] at h7
  simp only [if_true] at h7
  rw [H.2.2.2.2.2] at h6
  omega
/-- where the solver writes duals, matching, paths -/
def ZU (E : Ev) (xo b : Int) (w : Wd) (a i : Int) : Prop := ZQ E xo b w a i ∨ (b + 8 ≤ a ∧ a ≤ b + 11)
theorem ZU.tr (hG : Gr (ZU E xo b w) w u) (hG2 : Gr (ZU E xo b u) u u') : Gr (ZU E xo b w) w u' := hG.trN hG2 (fun a i hk z => by
  unfold ZU ZQ at z ⊢
  rw [hG.kd hk] at z; exact z)
theorem ZU.trq (hG : Gr (ZU E xo b w) w u) (hG2 : Gr (ZQ E xo b u) u u') : Gr (ZU E xo b w) w u' := hG.trN hG2 (fun a i hk z => by
  unfold ZU
  refine Or.inl ?_
  unfold ZQ at z ⊢
  rw [hG.kd hk] at z; exact z)
theorem ZU.no (H : XI E xo b u) (hk : 0 ≤ k ∧ k ≤ 31) (hn : k < 8 ∨ (15 < k ∧ k ≠ 17)) : ¬ ZU E xo b u (b + k) i := by
  rintro (z | z)
  · exact ZQ.no H hk (by omega) z
  · omega
theorem ZU.nx (H : XI E xo b u) (hi : i ≠ 16) : ¬ ZU E xo b u xo i := by
  have h2 := H.1.2.1
  rintro (z | z)
  · exact ZQ.nx H hi z
  · omega
theorem ZU.kp (H : XI E xo b w) (hG : Gr (ZU E xo b w) w u) (hk : 0 ≤ k ∧ k ≤ 31) (hn : k < 8 ∨ (15 < k ∧ k ≠ 17)) (i : Int) : rdw u (b + k) i = rdw w (b + k) i := hG.rd (by rw [H.2.1 k hk.1 hk.2]; exact xK_ne _ _) (ZU.no H hk hn)
theorem ZU.kx (H : XI E xo b w) (hG : Gr (ZU E xo b w) w u) (hi : i ≠ 16) : rdw u xo i = rdw w xo i := hG.rd (by rw [H.hk]; decide) (ZU.nx H hi)
theorem ZU.ck (H : XI E xo b w) (hG : Gr (ZU E xo b w) w u) (hi : 0 ≤ i ∧ i < 7) (j : Int) : rdw u (b + 1 + i) j = rdw w (b + 1 + i) j := by
  have := ZU.kp H hG (k := 1 + i) (by omega) (by omega) j
  rw [show b + (1 + i) = b + 1 + i by omega] at this
  exact this
theorem ZU.zw {i : Int} (hz : ZU E xo b w a i) : ZW E xo b w a i := by
  rcases hz with z | z
  · exact ZQ.zw z
  · exact Or.inr (Or.inl (by omega))
/-- a write into duals or matching -/
theorem AU.up (t : Int) (ht : 8 ≤ t ∧ t ≤ 11) (hV : XI E xo b u) (hW : Gr (ZU E xo b w) w u) (hQ : XQ E b u) (K : ∀ u', XI E xo b u' → Gr (ZU E xo b w) w u' → XQ E b u' → (∀ s q : Int, rdw u' (b + s) q = if s = t ∧ q = i then x else rdw u (b + s) q) → GG X bc bs u' pc lv st) : GG X bc bs (upw u (b + t) i x) pc lv st := by
  have hxb := hV.1.2.1
  have h50 := hV.kk t (by omega) (c := 50) (by unfold xK; (repeat' split) <;> omega)
  have g : Gr (fun a _ => a = b + t) u (upw u (b + t) i x) := Gr.rf.up rfl
  refine K _ (hV.gr g (fun k z => by omega) (fun k z => by omega) (fun k z => by omega)) (hW.up (Or.inr (by omega))) (hQ.gr g (fun i z => by omega) (fun a i hk z => ?_) (fun a i hk z => ?_)) (fun s q => ?_)
  · rw [z, h50] at hk; unfold qk at hk; omega
  · rw [z, h50] at hk; omega
  · by_cases hq : s = t ∧ q = i
    · rw [if_pos hq, rd_up_eq ⟨by omega, hq.2⟩]
    · rw [if_neg hq, rd_up_ne (by omega)]
theorem ifst {α : Type} {a b : α} (s : Int → Int) (j q x : Int) (hno : ¬ (s j = 1 ∧ j ≠ x)) : (if q < j ∧ s q = 1 ∧ q ≠ x then a else b) = (if q < j + 1 ∧ s q = 1 ∧ q ≠ x then a else b) := by
  by_cases hq : q = j
  · rw [hq, if_neg (by omega), if_neg (fun z => hno z.2)]
  · (repeat' split) <;> first | rfl | (exfalso; omega)
theorem c_s_augment (hX0 : XI E xo b w) (hQ : XQ E b w) (h6w : rdw w xo 6 = n) (hn : 1 ≤ n ∧ n ≤ 7) (hk : 0 ≤ row ∧ row < n) (hA : ∀ i j : Int, 0 ≤ i → i < n → 0 ≤ j → j < n → rdw w (b + 1 + i) j = C i j) (hC : bD C n) (hH : HUN n row C (rdw w (b + 8)) (rdw w (b + 9)) (rdw w (b + 11)) (rdw w (b + 10))) : Call E mX1_augment 10 98 665 [vR xo, vI row] w (qU (fun w' => XI E xo b w' ∧ Gr (ZU E xo b w) w w' ∧ XQ E b w' ∧ HUN n (row + 1) C (rdw w' (b + 8)) (rdw w' (b + 9)) (rdw w' (b + 11)) (rdw w' (b + 10)))) := by
  refine call_of (av := [(1, xo), (0, row)]) (by decide +kernel) rfl (Nat.le_of_ble_eq_true rfl) ?_
  intro X hX hF hname
  show GG X 98 665 w 0 [(1, xo), (0, row), (9, 0), (9, 0), (9, 0), (9, 0), (9, 0), (9, 0)] []
  have hV := hX0
  have hxb := hX0.1.2.1
  have h6 := h6w
  have hvb := fun j j0 j1 => (hH.2.1 j j0 j1).1
  obtain ⟨jf, jf0, jf1, jfe⟩ := hH.free hk.2 hk.1
  have hvf := (hH.2.1 jf jf0 jf1).2 jfe
  have hCk := fun j j0 j1 => hC row j hk.1 hk.2 j0 j1
  refine g_ldc (pc' := 2) (n := 1048576) hX dX1_augment_0 q565 rfl rfl ?_
  refine g_istore_n_2 (pc' := 3) hX dX1_augment_2 (by decide) rfl rfl ?_
  refine g_iconst (pc' := 4) hX dX1_augment_3 rfl ?_
  refine g_istore_n_3 (pc' := 5) hX dX1_augment_4 (by decide) rfl rfl ?_
  have loop : ∀ (f : Nat) (L j : Int), 0 ≤ j → j ≤ n → 0 ≤ L → L ≤ 1048576 → (∀ q : Int, 0 ≤ q → q < j → L ≤ C row q - rdw w (b + 9) q) → n < j + f → GG X 98 665 w 5 [(1, xo), (0, row), (0, L), (0, j), (9, 0), (9, 0), (9, 0), (9, 0)] [] := by
    intro f
    induction f with
    | zero => intro L j j0 j1 l0 l1 hL hf; exact absurd hf (by omega)
    | succ f ih =>
      intro L j j0 j1 l0 l1 hL hf
      refine g_iload_n (pc' := 6) hX dX1_augment_5 rfl rfl ?_
      refine g_aload_n (pc' := 7) hX dX1_augment_6 rfl rfl ?_
      refine gf_X1_237 (pc' := 10) hX dX1_augment_7 hV.h0 hV.hk rfl ?_
      rw [h6]
      refine g_icmp_ge (pc' := 13) (tgt := 39) hX dX1_augment_10 (by decide) rfl (by omega) (by omega) (fun h10 => ?_) (fun h10 => ?_)
      · skip
        refine g_aload_n (pc' := 40) hX dX1_augment_39 rfl rfl ?_
        refine gf_X1_38 (pc' := 43) hX dX1_augment_40 hV.h0 hV.hk rfl ?_
        rw [hV.f 8 (by decide) (show xF 8 = 8 from rfl)]
        refine g_iload_n (pc' := 44) hX dX1_augment_43 rfl rfl ?_
        refine g_iload_n (pc' := 45) hX dX1_augment_44 rfl rfl ?_
        refine g_iastL (pc' := 46) hX dX1_augment_45 (by have := hV.hbb; omega) (hV.kk 8 (by decide) (show xK b 8 = 50 from rfl)) (hV.ln 8 (by decide) (show xL 8 = 7 from rfl)) (by omega) rfl ?_
        refine AU.up 8 (by omega) hV (w := w) Gr.rf hQ (fun u1 hV1 hW1 hQ1 g1 => ?_)
        have e9 : rdw u1 (b + 9) = rdw w (b + 9) := funext (fun q => by rw [g1 9 q, if_neg (by omega)])
        have e10 : rdw u1 (b + 10) = rdw w (b + 10) := funext (fun q => by rw [g1 10 q, if_neg (by omega)])
        have e11 : rdw u1 (b + 11) = rdw w (b + 11) := funext (fun q => by rw [g1 11 q, if_neg (by omega)])
        have hH1 : HUN n row C (rdw u1 (b + 8)) (rdw u1 (b + 9)) (rdw u1 (b + 11)) (rdw u1 (b + 10)) := by
          rw [e9, e10, e11]
          refine ⟨fun i j i0 i1 j0 j1 => ?_, hH.2.1, fun i i0 i1 => ?_, hH.2.2.2.1, hH.2.2.2.2⟩
          · rw [g1 8 i, if_neg (by omega)]; exact hH.1 i j i0 i1 j0 j1
          · rw [g1 8 i, if_neg (by omega)]; exact hH.2.2.1 i i0 i1
        have hLf := hL jf jf0 (by omega)
        have hCf := hCk jf jf0 jf1
        have h8k : rdw u1 (b + 8) row = L := by rw [g1 8 row, if_pos ⟨rfl, rfl⟩]
        have hR : RK n row C (rdw u1 (b + 8)) (rdw u1 (b + 9)) := by
          refine ⟨fun j j0 j1 => ?_, by omega, by omega⟩
          rw [h8k, e9]
          have := hL j j0 (by omega); omega
        have h6 : rdw u1 xo 6 = n := (ZU.kx hX0 hW1 (by omega)).trans h6w
        have hA1 : ∀ i j : Int, 0 ≤ i → i < n → 0 ≤ j → j < n → rdw u1 (b + 1 + i) j = C i j := fun i j i0 i1 j0 j1 => by rw [ZU.ck hX0 hW1 (by omega)]; exact hA i j i0 i1 j0 j1
        have hvb1 := fun j j0 j1 => (hH1.2.1 j j0 j1).1
        have hub1 := fun i i0 i1 => hH1.ub hC (by omega) (i := i) i0 i1
        clear hvb hvf hLf hCf hL
        have hV := hV1
        refine g_aload_n (pc' := 47) hX dX1_augment_46 rfl rfl ?_
        refine gV0U0 (pc' := 50) hX dX1_augment_47 ml_X1_268 gc_X1 hV.h0 hV.hk (c_s_beginPaths hV1 hQ1 h6 hn) (Nat.le_of_ble_eq_true rfl) (by decide) rfl (fun w47 q47 => ?_)
        obtain ⟨hV2, hF2, hS2, hd2⟩ := q47
        have hZ2 := hF2.gr
        have hV := hV2
        have FF : ∀ (u : Wd), Gr (ZQ E xo b u1) u1 u → ∀ i j : Int, 0 ≤ i → i < n → 0 ≤ j → j < n → rdw u (b + 1 + i) j - rdw u (b + 8) i - rdw u (b + 9) j = C i j - rdw u1 (b + 8) i - rdw u1 (b + 9) j := fun u hZ i j i0 i1 j0 j1 => by rw [ZQ.ck hV1 hZ (by omega), ZQ.kp hV1 hZ (k := 8) (by omega) (by omega), ZQ.kp hV1 hZ (k := 9) (by omega) (by omega), hA1 i j i0 i1 j0 j1]
        refine g_aload_n (pc' := 51) hX dX1_augment_50 rfl rfl ?_
        refine g_iload_n (pc' := 52) hX dX1_augment_51 rfl rfl ?_
        refine g_iconst (pc' := 53) hX dX1_augment_52 rfl ?_
        have hfar : ∀ q : Int, 0 ≤ q → q < n → rdw w47 (b + 14) q = 0 → 0 ≤ 0 + (rdw w47 (b + 1 + row) q - rdw w47 (b + 8) row - rdw w47 (b + 9) q) ∧ 0 + (rdw w47 (b + 1 + row) q - rdw w47 (b + 8) row - rdw w47 (b + 9) q) < 1048576 := fun q q0 q1 _ => by
          rw [FF w47 hZ2 row q hk.1 hk.2 q0 q1]
          have t1 := hR.1 q q0 q1
          have t2 := hvb1 q q0 q1
          have t3 := hCk q q0 q1
          have t4 := hR.2
          omega
        refine gV2U (pc' := 56) hX dX1_augment_53 ml_X1_271 gc_X1 hV.h0 hV.hk (c_s_relaxColumns (sz := n) hV2 hS2 (fun j j0 j1 _ _ e => absurd e (by have := (hd2 j j0 j1).1; omega)) hn.2 ((ZQ.kx hV1 hZ2 (by omega)).trans h6) (by omega) hk hfar) (Nat.le_of_ble_eq_true rfl) (by decide) ⟨by omega, by omega⟩ rfl (fun w53 q53 => ?_)
        obtain ⟨hV3, hG3, ⟨s3, S3, fd3, hS3, hO3, hfa3, hfb3⟩, o12, o13, o14⟩ := q53
        have hZ3 := ZQ.tr hZ2 hG3
        have o12c : ∀ q : Int, 0 ≤ q → q < n → rdw w53 (b + 12) q = C row q - rdw u1 (b + 8) row - rdw u1 (b + 9) q := fun q q0 q1 => by
          have t0 := hfar q q0 q1 (hd2 q q0 q1).2
          have t1 := o12 q
          rw [FF w47 hZ2 row q hk.1 hk.2 q0 q1] at t0 t1
          rw [(hd2 q q0 q1).1, if_pos ⟨⟨q0, q1⟩, (hd2 q q0 q1).2, t0.2⟩] at t1
          omega
        have o13c : ∀ q : Int, 0 ≤ q → q < n → rdw w53 (b + 13) q = row := fun q q0 q1 => by
          have t0 := hfar q q0 q1 (hd2 q q0 q1).2
          have t1 := o13 q
          rw [(hd2 q q0 q1).1, if_pos ⟨⟨q0, q1⟩, (hd2 q q0 q1).2, t0.2⟩] at t1
          exact t1
        have o12b : ∀ q : Int, 0 ≤ q → q < n → rdw w53 (b + 12) q < 1048576 := fun q q0 q1 => by
          have t0 := hfar q q0 q1 (hd2 q q0 q1).2
          rw [FF w47 hZ2 row q hk.1 hk.2 q0 q1] at t0
          rw [o12c q q0 q1]; omega
        have hV := hV3
        refine g_aload_n (pc' := 57) hX dX1_augment_56 rfl rfl ?_
        refine gV0I0 (pc' := 60) hX dX1_augment_57 ml_X1_274 gc_X1 hV.h0 hV.hk (c_s_settleNext hV3 hS3 hO3 hn.2 ⟨0, by omega, by omega, by rw [o14]; exact (hd2 0 (by omega) (by omega)).2, o12b 0 (by omega) (by omega)⟩) (Nat.le_of_ble_eq_true rfl) (by decide) rfl (fun r57 w57 q57 => ?_)
        obtain ⟨⟨hx, hx0, hxl, hxm⟩, hV4, hF4, ⟨s4, S4, hS4, hO4⟩, p12, p13, p14⟩ := q57
        have hZ4 := ZQ.tr hZ3 hF4.gr
        have hDJ : DJ n row C (rdw u1 (b + 8)) (rdw u1 (b + 9)) (rdw u1 (b + 10)) (rdw w57 (b + 12)) (rdw w57 (b + 13)) (rdw w57 (b + 14)) (fun _ => 0) 1 r57 := by
          refine DJ.init hR hx (fun q q0 q1 => by rw [p12]; exact o12c q q0 q1) (fun q q0 q1 => by rw [p13]; exact o13c q q0 q1) (fun q q0 q1 => ?_) (fun j j0 j1 => ?_)
          · rw [p14]; split
            · rfl
            · rw [o14]; exact (hd2 q q0 q1).2
          · rw [p12, p12]; exact hxm j j0 j1 (by rw [o14]; exact (hd2 j j0 j1).2)
        clear hfar o12c o13c o12b o12 o13 o14 p12 p13 p14 hxm hx0 hxl hd2
        refine g_istore_n_3 (pc' := 61) hX dX1_augment_60 (by decide) rfl rfl ?_
        have loop : ∀ (g : Nat) (x m : Int) (u : Wd) (s : Int) (S : Int → Prop) (fd : Int) (od : Int → Int), XI E xo b u → Gr (ZQ E xo b u1) u1 u → QS E xo b n u s S fd → QO b n u S (-1) → fd ≤ 7 * m → 1 ≤ m → DJ n row C (rdw u1 (b + 8)) (rdw u1 (b + 9)) (rdw u1 (b + 10)) (rdw u (b + 12)) (rdw u (b + 13)) (rdw u (b + 14)) od m x → n < m + g → GG X (14 * (7 - m).toNat) (95 * (7 - m).toNat) u 61 [(1, xo), (0, row), (0, L), (0, x), (9, 0), (9, 0), (9, 0), (9, 0)] [] := by
          intro g
          induction g with
          | zero => intro x m u s S fd od _ _ _ _ _ _ hD hg; exact absurd hg (by have := hD.mn (by omega); omega)
          | succ g ih =>
            intro x m u s S fd od hV hZ hS hO hfd m1 hD hg
            have hx := hD.1.1
            have hrx := hH1.2.2.2.1 x hx.1 hx.2
            have h10x : rdw u (b + 10) x = rdw u1 (b + 10) x := ZQ.kp hV1 hZ (k := 10) (by omega) (by omega) x
            refine g_aload_n (pc' := 62) hX dX1_augment_61 rfl rfl ?_
            refine gf_X1_45 (pc' := 65) hX dX1_augment_62 hV.h0 hV.hk rfl ?_
            rw [hV.f 10 (by decide) (show xF 10 = 10 from rfl)]
            refine g_iload_n (pc' := 66) hX dX1_augment_65 rfl rfl ?_
            refine g_ialdL (pc' := 67) hX dX1_augment_66 (by have := hV.b0; omega) (hV.kk 10 (by decide) (show xK b 10 = 50 from rfl)) (hV.ln 10 (by decide) (show xL 10 = 7 from rfl)) (by omega) rfl ?_
            rw [h10x]
            refine g_iconst (pc' := 68) hX dX1_augment_67 rfl ?_
            refine g_icmp_eq (pc' := 71) (tgt := 95) hX dX1_augment_68 (by decide) rfl (by omega) (by omega) (fun h68 => ?_) (fun h68 => ?_)
            · skip
              have hfree : rdw u1 (b + 10) x = -1 := by omega
              refine g_aload_n (pc' := 96) hX dX1_augment_95 rfl rfl ?_
              refine gf_X1_51 (pc' := 99) hX dX1_augment_96 hV.h0 hV.hk rfl ?_
              rw [hV.f 12 (by decide) (show xF 12 = 12 from rfl)]
              refine g_iload_n (pc' := 100) hX dX1_augment_99 rfl rfl ?_
              refine g_ialdL (pc' := 101) hX dX1_augment_100 (by have := hV.b0; omega) (hV.kk 12 (by decide) (show xK b 12 = 50 from rfl)) (hV.ln 12 (by decide) (show xL 12 = 7 from rfl)) (by omega) rfl ?_
              have hDx0 := (hD.2.1 x hx.1 hx.2).2.1
              have hW0 : Gr (ZU E xo b w) w u := ZU.trq hW1 hZ
              have hQ0 : XQ E b u := hS.xq
              have k8 : ∀ q, rdw u (b + 8) q = rdw u1 (b + 8) q := fun q => ZQ.kp hV1 hZ (k := 8) (by omega) (by omega) q
              have k9 : ∀ q, rdw u (b + 9) q = rdw u1 (b + 9) q := fun q => ZQ.kp hV1 hZ (k := 9) (by omega) (by omega) q
              have k10 : ∀ q, rdw u (b + 10) q = rdw u1 (b + 10) q := fun q => ZQ.kp hV1 hZ (k := 10) (by omega) (by omega) q
              have k11 : ∀ q, rdw u (b + 11) q = rdw u1 (b + 11) q := fun q => ZQ.kp hV1 hZ (k := 11) (by omega) (by omega) q
              have st0 := fun j j0 j1 => (hD.2.1 j j0 j1).1
              have dle := fun j j0 j1 e => ((hD.2.1 j j0 j1).2.2.1 e).1
              have dge := fun j j0 j1 => (hD.2.1 j j0 j1).2.1
              have hdx : rdw u (b + 12) x ≤ 10000 := by
                have t1 := hD.2.2.1 x hx.1 hx.2
                have t2 := (hH1.2.1 x hx.1 hx.2).2 hfree
                have t3 := hC row x hk.1 hk.2 hx.1 hx.2
                have t4 := hR.2
                omega
              have hros : ∀ j : Int, 0 ≤ j → j < n → rdw u (b + 14) j = 1 → j ≠ x → (0 ≤ rdw u1 (b + 10) j ∧ rdw u1 (b + 10) j < row) ∧ rdw u1 (b + 11) (rdw u1 (b + 10) j) = j := fun j j0 j1 e1 e2 => by
                have t1 := ((hD.2.1 j j0 j1).2.2.1 e1).2.2 e2
                rcases hH1.2.2.2.1 j j0 j1 with z | z
                · omega
                · exact ⟨⟨z.1, z.2.1⟩, z.2.2⟩
              obtain ⟨D, hDe⟩ : ∃ D, D = rdw u (b + 12) x := ⟨_, rfl⟩
              rw [← hDe]
              rw [← hDe] at hdx hDx0 dle
              refine g_istore_4 (pc' := 103) hX dX1_augment_101 (by decide) rfl rfl ?_
              refine g_iconst (pc' := 104) hX dX1_augment_103 rfl ?_
              refine g_istore_5 (pc' := 106) hX dX1_augment_104 (by decide) rfl rfl ?_
              have loop : ∀ (f : Nat) (j : Int) (v : Wd), 0 ≤ j → j ≤ n → XI E xo b v → Gr (ZU E xo b w) w v → XQ E b v → (∀ i : Int, 0 ≤ i → i < row → rdw v (b + 8) i = if rdw u1 (b + 11) i < j ∧ rdw u (b + 14) (rdw u1 (b + 11) i) = 1 ∧ rdw u1 (b + 11) i ≠ x then rdw u1 (b + 8) i + (D - rdw u (b + 12) (rdw u1 (b + 11) i)) else rdw u1 (b + 8) i) → rdw v (b + 8) row = rdw u1 (b + 8) row → (∀ q : Int, 0 ≤ q → rdw v (b + 9) q = if q < j ∧ rdw u (b + 14) q = 1 ∧ q ≠ x then rdw u1 (b + 9) q + (rdw u (b + 12) q - D) else rdw u1 (b + 9) q) → (∀ t q : Int, 10 ≤ t → t ≤ 14 → rdw v (b + t) q = rdw u (b + t) q) → n < j + f → GG X 0 0 v 106 [(1, xo), (0, row), (0, L), (0, x), (0, D), (0, j), (9, 0), (9, 0)] [] := by
                intro f
                induction f with
                | zero => intro j v j0 j1 hV hW hQ e8 e8k e9 ek hf; exact absurd hf (by omega)
                | succ f ih =>
                  intro j v j0 j1 hV hW hQ e8 e8k e9 ek hf
                  have h6 : rdw v xo 6 = n := (ZU.kx hX0 hW (by omega)).trans h6w
                  refine g_iload (pc' := 108) hX dX1_augment_106 rfl rfl ?_
                  refine g_aload_n (pc' := 109) hX dX1_augment_108 rfl rfl ?_
                  refine gf_X1_237 (pc' := 112) hX dX1_augment_109 hV.h0 hV.hk rfl ?_
                  rw [h6]
                  refine g_icmp_ge (pc' := 115) (tgt := 182) hX dX1_augment_112 (by decide) rfl (by omega) (by omega) (fun h112 => ?_) (fun h112 => ?_)
                  · skip
                    refine g_aload_n (pc' := 183) hX dX1_augment_182 rfl rfl ?_
                    refine gf_X1_38 (pc' := 186) hX dX1_augment_183 hV.h0 hV.hk rfl ?_
                    rw [hV.f 8 (by decide) (show xF 8 = 8 from rfl)]
                    refine g_iload_n (pc' := 187) hX dX1_augment_186 rfl rfl ?_
                    refine g_dup2 (pc' := 188) hX dX1_augment_187 (vI_cat _) (vR_cat _) rfl ?_
                    refine g_ialdL (pc' := 189) hX dX1_augment_188 (by have := hV.b0; omega) (hV.kk 8 (by decide) (show xK b 8 = 50 from rfl)) (hV.ln 8 (by decide) (show xL 8 = 7 from rfl)) (by omega) rfl ?_
                    rw [e8k]
                    refine g_iload (pc' := 191) hX dX1_augment_189 rfl rfl ?_
                    refine g_iadd (pc' := 192) hX dX1_augment_191 rfl ?_
                    refine g_iastL (pc' := 193) hX dX1_augment_192 (by have := hV.hbb; omega) (hV.kk 8 (by decide) (show xK b 8 = 50 from rfl)) (hV.ln 8 (by decide) (show xL 8 = 7 from rfl)) (by omega) rfl ?_
                    refine AU.up 8 (by omega) hV hW hQ (fun v2 hV2 hW2 hQ2 g2 => ?_)
                    have hV := hV2
                    have jn : j = n := by omega
                    obtain ⟨d1, d2, d3, d4, d5⟩ := hD.dual (U := rdw v2 (b + 8)) (V := rdw v2 (b + 9)) hH1 hR hC hk hfree (fun i i0 i1 => by
                      have t := (hH1.2.2.1 i i0 i1).1
                      rw [g2 8 i, if_neg (by omega), e8 i i0 i1, ← hDe]
                      (repeat' split) <;> first | rfl | (exfalso; omega)) (by rw [g2 8 row, if_pos ⟨rfl, rfl⟩, hDe]) (fun q q0 q1 => by
                      rw [g2 9 q, if_neg (by omega), e9 q q0, ← hDe]
                      (repeat' split) <;> first | rfl | (exfalso; omega))
                    have m8 : ∀ t q : Int, 10 ≤ t → t ≤ 14 → rdw v2 (b + t) q = rdw u (b + t) q := fun t q t0 t1 => by rw [g2 t q, if_neg (by omega)]; exact ek t q t0 t1
                    have hro0 : ∀ c : Int, 0 ≤ c → c < n → rdw u (b + 14) c = 1 → c ≠ x → rdw u1 (b + 10) c ≠ -1 := fun c c0 c1 e1 e2 => by have := hros c c0 c1 e1 e2; omega
                    have hFL : FLP n row C (rdw v2 (b + 8)) (rdw v2 (b + 9)) (rdw u1 (b + 10)) (rdw u (b + 14)) od x (rdw v2 (b + 11)) (rdw v2 (b + 10)) x := by
                      rw [show rdw v2 (b + 11) = rdw u1 (b + 11) from funext (fun q => by rw [m8 11 q (by omega) (by omega), k11]), show rdw v2 (b + 10) = rdw u1 (b + 10) from funext (fun q => by rw [m8 10 q (by omega) (by omega), k10])]
                      exact FLP.init hD hH1 hfree d4
                    have hodx := ((hD.2.1 x hx.1 hx.2).2.2.1 hD.1.2.1).2.1
                    clear e8 e9 e8k ek
                    refine g_iload_n (pc' := 194) hX dX1_augment_193 rfl rfl ?_
                    refine g_istore_5 (pc' := 196) hX dX1_augment_194 (by decide) rfl rfl ?_
                    refine g_aload_n (pc' := 197) hX dX1_augment_196 rfl rfl ?_
                    refine gf_X1_54 (pc' := 200) hX dX1_augment_197 hV.h0 hV.hk rfl ?_
                    first
                      | rw [hV.f 13 (by decide) (show xF 13 = 13 from rfl)]
                      | (repeat rw [rd_up_ne (by omega)]); rw [hV.f 13 (by decide) (show xF 13 = 13 from rfl)]
                    refine g_iload (pc' := 202) hX dX1_augment_200 rfl rfl ?_
                    refine g_ialdL (pc' := 203) hX dX1_augment_202 (by have := hV.b0; omega) (hV.kk 13 (by decide) (show xK b 13 = 50 from rfl)) (hV.ln 13 (by decide) (show xL 13 = 7 from rfl)) (by omega) rfl ?_
                    repeat (first | rw [rd_up_ne (by omega)] | rw [rd_up_eq (by omega)])
                    rw [m8 13 x (by omega) (by omega)]
                    refine g_istore_6 (pc' := 205) hX dX1_augment_203 (by decide) rfl rfl ?_
                    have loop : ∀ (f : Nat) (c : Int) (t : Wd) (x8 : Nat × Int), XI E xo b t → Gr (ZU E xo b w) w t → XQ E b t → (∀ s q : Int, 8 ≤ s → s ≤ 14 → s ≠ 10 → s ≠ 11 → rdw t (b + s) q = rdw v2 (b + s) q) → FLP n row C (rdw v2 (b + 8)) (rdw v2 (b + 9)) (rdw u1 (b + 10)) (rdw u (b + 14)) od x (rdw t (b + 11)) (rdw t (b + 10)) c → od c < f → GG X 0 0 t 205 [(1, xo), (0, row), (0, L), (0, x), (0, D), (0, c), (0, rdw u (b + 13) c), x8] [] := by
                      intro f
                      induction f with
                      | zero => intro c t x8 hV hW hQ kk hFl hf; exact absurd hf (by have := hFl.1.2.2; omega)
                      | succ f ih =>
                        intro c t x8 hV hW hQ kk hFl hf
                        have hc := hFl.1
                        have hcr := hro0 c hc.1.1 hc.1.2 hc.2.1
                        obtain ⟨R, hRe⟩ : ∃ R, R = rdw u (b + 13) c := ⟨_, rfl⟩
                        have h5 := d5 c hc.1.1 hc.1.2 hc.2.1
                        rw [← hRe] at h5 ⊢
                        have hRb : 0 ≤ R ∧ R ≤ row := by
                          rcases h5 with z | ⟨jj, j1, j2, j3, j4, j5, j6, j7⟩
                          · omega
                          · omega
                        refine g_iload (pc' := 207) hX dX1_augment_205 rfl rfl ?_
                        refine g_iload_n (pc' := 208) hX dX1_augment_207 rfl rfl ?_
                        refine g_icmp_eq (pc' := 211) (tgt := 254) hX dX1_augment_208 (by decide) rfl (by omega) (by omega) (fun h208 => ?_) (fun h208 => ?_)
                        · skip
                          have hT : C row c = rdw v2 (b + 8) row + rdw v2 (b + 9) c := by
                            rcases h5 with z | ⟨jj, j1, j2, j3, j4, j5, j6, j7⟩
                            · exact z.2
                            · exact absurd j5.2 (by omega)
                          refine g_aload_n (pc' := 255) hX dX1_augment_254 rfl rfl ?_
                          refine gf_X1_45 (pc' := 258) hX dX1_augment_255 hV.h0 hV.hk rfl ?_
                          rw [hV.f 10 (by decide) (show xF 10 = 10 from rfl)]
                          refine g_iload (pc' := 260) hX dX1_augment_258 rfl rfl ?_
                          refine g_iload_n (pc' := 261) hX dX1_augment_260 rfl rfl ?_
                          refine g_iastL (pc' := 262) hX dX1_augment_261 (by have := hV.hbb; omega) (hV.kk 10 (by decide) (show xK b 10 = 50 from rfl)) (hV.ln 10 (by decide) (show xL 10 = 7 from rfl)) (by omega) rfl ?_
                          refine AU.up 10 (by omega) hV hW hQ (fun t3 hV3 hW3 hQ3 g3 => ?_)
                          have hV := hV3
                          refine g_aload_n (pc' := 263) hX dX1_augment_262 rfl rfl ?_
                          refine gf_X1_48 (pc' := 266) hX dX1_augment_263 hV.h0 hV.hk rfl ?_
                          first
                            | rw [hV.f 11 (by decide) (show xF 11 = 11 from rfl)]
                            | (repeat rw [rd_up_ne (by omega)]); rw [hV.f 11 (by decide) (show xF 11 = 11 from rfl)]
                          refine g_iload_n (pc' := 267) hX dX1_augment_266 rfl rfl ?_
                          refine g_iload (pc' := 269) hX dX1_augment_267 rfl rfl ?_
                          refine g_iastL (pc' := 270) hX dX1_augment_269 (by have := hV.hbb; omega) (hV.kk 11 (by decide) (show xK b 11 = 50 from rfl)) (hV.ln 11 (by decide) (show xL 11 = 7 from rfl)) (by omega) rfl ?_
                          refine AU.up 11 (by omega) hV3 hW3 hQ3 (fun t4 hV4 hW4 hQ4 g4 => ?_)
                          have hV := hV4
                          have hfin := hFl.fin (co' := rdw t4 (b + 11)) (ro' := rdw t4 (b + 10)) hcr hx hk hH1.2.2.2.2 hfree d1 d2 d3 hT (fun q => by
                            rw [g4 11 q]
                            by_cases hq : q = row
                            · rw [if_pos ⟨rfl, hq⟩, if_pos hq]
                            · rw [if_neg (fun z => hq z.2), if_neg hq, g3 11 q, if_neg (by omega)]) (fun q => by
                            rw [g4 10 q, if_neg (by omega), g3 10 q]
                            by_cases hq : q = c
                            · rw [if_pos ⟨rfl, hq⟩, if_pos hq]
                            · rw [if_neg (fun z => hq z.2), if_neg hq])
                          rw [← show rdw t4 (b + 8) = rdw v2 (b + 8) from funext (fun q => by rw [g4 8 q, if_neg (by omega), g3 8 q, if_neg (by omega)]; exact kk 8 q (by omega) (by omega) (by omega) (by omega)), ← show rdw t4 (b + 9) = rdw v2 (b + 9) from funext (fun q => by rw [g4 9 q, if_neg (by omega), g3 9 q, if_neg (by omega)]; exact kk 9 q (by omega) (by omega) (by omega) (by omega))] at hfin
                          exact g_retU hX hF dX1_augment_270 ⟨hV4, hW4, hQ4, hfin⟩
                        · skip
                          have h5b : ∃ jj : Int, (0 ≤ jj ∧ jj < n) ∧ rdw u (b + 14) jj = 1 ∧ jj ≠ x ∧ R = rdw u1 (b + 10) jj ∧ (0 ≤ R ∧ R < row) ∧ od jj < od c ∧ C R c = rdw v2 (b + 8) R + rdw v2 (b + 9) c := by
                            rcases h5 with z | ⟨jj, j1, j2, j3, j4, j5, j6, j7⟩
                            · exact absurd z.1 (by omega)
                            · rw [← j4] at j5 j7
                              exact ⟨jj, j1, j2, j3, j4, j5, j6, j7⟩
                          obtain ⟨jj, hjj⟩ := h5b
                          have hoj := ((hD.2.1 jj hjj.1.1 hjj.1.2).2.2.1 hjj.2.1).2.1
                          have hRn := hjj.2.2.2.2.1
                          refine g_aload_n (pc' := 212) hX dX1_augment_211 rfl rfl ?_
                          refine gf_X1_48 (pc' := 215) hX dX1_augment_212 hV.h0 hV.hk rfl ?_
                          rw [hV.f 11 (by decide) (show xF 11 = 11 from rfl)]
                          refine g_iload (pc' := 217) hX dX1_augment_215 rfl rfl ?_
                          refine g_ialdL (pc' := 218) hX dX1_augment_217 (by have := hV.b0; omega) (hV.kk 11 (by decide) (show xK b 11 = 50 from rfl)) (hV.ln 11 (by decide) (show xL 11 = 7 from rfl)) (by omega) rfl ?_
                          refine g_istore_7 (pc' := 220) hX dX1_augment_218 (by decide) rfl rfl ?_
                          refine g_aload_n (pc' := 221) hX dX1_augment_220 rfl rfl ?_
                          refine gf_X1_45 (pc' := 224) hX dX1_augment_221 hV.h0 hV.hk rfl ?_
                          rw [hV.f 10 (by decide) (show xF 10 = 10 from rfl)]
                          refine g_iload (pc' := 226) hX dX1_augment_224 rfl rfl ?_
                          refine g_iload (pc' := 228) hX dX1_augment_226 rfl rfl ?_
                          refine g_iastL (pc' := 229) hX dX1_augment_228 (by have := hV.hbb; omega) (hV.kk 10 (by decide) (show xK b 10 = 50 from rfl)) (hV.ln 10 (by decide) (show xL 10 = 7 from rfl)) (by omega) rfl ?_
                          refine AU.up 10 (by omega) hV hW hQ (fun t3 hV3 hW3 hQ3 g3 => ?_)
                          have hV := hV3
                          refine g_aload_n (pc' := 230) hX dX1_augment_229 rfl rfl ?_
                          refine gf_X1_48 (pc' := 233) hX dX1_augment_230 hV.h0 hV.hk rfl ?_
                          first
                            | rw [hV.f 11 (by decide) (show xF 11 = 11 from rfl)]
                            | (repeat rw [rd_up_ne (by omega)]); rw [hV.f 11 (by decide) (show xF 11 = 11 from rfl)]
                          refine g_iload (pc' := 235) hX dX1_augment_233 rfl rfl ?_
                          refine g_iload (pc' := 237) hX dX1_augment_235 rfl rfl ?_
                          refine g_iastL (pc' := 238) hX dX1_augment_237 (by have := hV.hbb; omega) (hV.kk 11 (by decide) (show xK b 11 = 50 from rfl)) (hV.ln 11 (by decide) (show xL 11 = 7 from rfl)) (by omega) rfl ?_
                          refine AU.up 11 (by omega) hV3 hW3 hQ3 (fun t4 hV4 hW4 hQ4 g4 => ?_)
                          have hV := hV4
                          obtain ⟨hcj, hFl4⟩ := hFl.step (co' := rdw t4 (b + 11)) (ro' := rdw t4 (b + 10)) hcr hjj hoj (fun q => by
                            rw [g4 11 q]
                            by_cases hq : q = R
                            · rw [if_pos ⟨rfl, hq⟩, if_pos hq]
                            · rw [if_neg (fun z => hq z.2), if_neg hq, g3 11 q, if_neg (by omega)]) (fun q => by
                            rw [g4 10 q, if_neg (by omega), g3 10 q]
                            by_cases hq : q = c
                            · rw [if_pos ⟨rfl, hq⟩, if_pos hq]
                            · rw [if_neg (fun z => hq z.2), if_neg hq])
                          have kk4 : ∀ s q : Int, 8 ≤ s → s ≤ 14 → s ≠ 10 → s ≠ 11 → rdw t4 (b + s) q = rdw v2 (b + s) q := fun s q s0 s1 s2 s3 => by rw [g4 s q, if_neg (by omega), g3 s q, if_neg (by omega)]; exact kk s q s0 s1 s2 s3
                          rw [hcj]
                          have hjn := hjj.1
                          have hjod := hjj.2.2.2.2.2.1
                          refine g_iload (pc' := 240) hX dX1_augment_238 rfl rfl ?_
                          refine g_istore_5 (pc' := 242) hX dX1_augment_240 (by decide) rfl rfl ?_
                          refine g_aload_n (pc' := 243) hX dX1_augment_242 rfl rfl ?_
                          refine gf_X1_54 (pc' := 246) hX dX1_augment_243 hV.h0 hV.hk rfl ?_
                          first
                            | rw [hV.f 13 (by decide) (show xF 13 = 13 from rfl)]
                            | (repeat rw [rd_up_ne (by omega)]); rw [hV.f 13 (by decide) (show xF 13 = 13 from rfl)]
                          refine g_iload (pc' := 248) hX dX1_augment_246 rfl rfl ?_
                          refine g_ialdL (pc' := 249) hX dX1_augment_248 (by have := hV.b0; omega) (hV.kk 13 (by decide) (show xK b 13 = 50 from rfl)) (hV.ln 13 (by decide) (show xL 13 = 7 from rfl)) (by omega) rfl ?_
                          repeat (first | rw [rd_up_ne (by omega)] | rw [rd_up_eq (by omega)])
                          rw [kk4 13 jj (by omega) (by omega) (by omega) (by omega), m8 13 jj (by omega) (by omega)]
                          refine g_istore_6 (pc' := 251) hX dX1_augment_249 (by decide) rfl rfl ?_
                          refine g_goto (tgt := 205) hX dX1_augment_251 (by decide) ?_
                          exact ih jj t4 _ hV4 hW4 hQ4 kk4 hFl4 (by omega)
                    exact loop (od x + 1).toNat x v2 (9, 0) hV2 hW2 hQ2 (fun s q _ _ _ _ => rfl) hFL (by omega)
                  · skip
                    refine g_aload_n (pc' := 116) hX dX1_augment_115 rfl rfl ?_
                    refine gf_X1_57 (pc' := 119) hX dX1_augment_116 hV.h0 hV.hk rfl ?_
                    rw [hV.f 14 (by decide) (show xF 14 = 14 from rfl)]
                    refine g_iload (pc' := 121) hX dX1_augment_119 rfl rfl ?_
                    refine g_zaldL (pc' := 122) hX dX1_augment_121 (by have := hV.b0; omega) (hV.kk 14 (by decide) (show xK b 14 = 51 from rfl)) (hV.ln 14 (by decide) (show xL 14 = 7 from rfl)) (by omega) rfl ?_
                    rw [ek 14 j (by omega) (by omega)]
                    have stj := st0 j j0 (by omega)
                    refine g_if_eq (pc' := 125) (tgt := 176) hX dX1_augment_122 (by decide) rfl (by omega) (fun h122 => ?_) (fun h122 => ?_)
                    · skip
                      have hno : ¬ (rdw u (b + 14) j = 1 ∧ j ≠ x) := by omega
                      refine g_iinc_5 (pc' := 179) hX dX1_augment_176 (by decide) rfl rfl ?_
                      refine g_goto (tgt := 106) hX dX1_augment_179 (by decide) ?_
                      first
                        | exact ih (j + 1) v5 (by omega) (by omega) hV5 hW5 hQ5 n8 n8k n9 nk (by omega)
                        | exact ih (j + 1) v (by omega) (by omega) hV hW hQ (fun i i0 i1 => by rw [e8 i i0 i1]; exact ifst (rdw u (b + 14)) j (rdw u1 (b + 11) i) x hno) e8k (fun q q0 => by rw [e9 q q0]; exact ifst (rdw u (b + 14)) j q x hno) ek (by omega)
                    · skip
                      have hs1 : rdw u (b + 14) j = 1 := by omega
                      refine g_iload (pc' := 127) hX dX1_augment_125 rfl rfl ?_
                      refine g_iload_n (pc' := 128) hX dX1_augment_127 rfl rfl ?_
                      refine g_icmp_eq (pc' := 131) (tgt := 176) hX dX1_augment_128 (by decide) rfl (by omega) (by omega) (fun h128 => ?_) (fun h128 => ?_)
                      · skip
                        have hno : ¬ (rdw u (b + 14) j = 1 ∧ j ≠ x) := by omega
                        refine g_iinc_5 (pc' := 179) hX dX1_augment_176 (by decide) rfl rfl ?_
                        refine g_goto (tgt := 106) hX dX1_augment_179 (by decide) ?_
                        first
                          | exact ih (j + 1) v5 (by omega) (by omega) hV5 hW5 hQ5 n8 n8k n9 nk (by omega)
                          | exact ih (j + 1) v (by omega) (by omega) hV hW hQ (fun i i0 i1 => by rw [e8 i i0 i1]; exact ifst (rdw u (b + 14)) j (rdw u1 (b + 11) i) x hno) e8k (fun q q0 => by rw [e9 q q0]; exact ifst (rdw u (b + 14)) j q x hno) ek (by omega)
                      · skip
                        have hjx : j ≠ x := by omega
                        have hrj := hros j j0 (by omega) hs1 hjx
                        have hdj := dge j j0 (by omega)
                        have hdl := dle j j0 (by omega) hs1
                        have e9j := e9 j j0
                        rw [if_neg (by omega)] at e9j
                        have e8j := e8 _ hrj.1.1 hrj.1.2
                        rw [hrj.2, if_neg (by omega)] at e8j
                        refine g_aload_n (pc' := 132) hX dX1_augment_131 rfl rfl ?_
                        refine gf_X1_42 (pc' := 135) hX dX1_augment_132 hV.h0 hV.hk rfl ?_
                        rw [hV.f 9 (by decide) (show xF 9 = 9 from rfl)]
                        refine g_iload (pc' := 137) hX dX1_augment_135 rfl rfl ?_
                        refine g_dup2 (pc' := 138) hX dX1_augment_137 (vI_cat _) (vR_cat _) rfl ?_
                        refine g_ialdL (pc' := 139) hX dX1_augment_138 (by have := hV.b0; omega) (hV.kk 9 (by decide) (show xK b 9 = 50 from rfl)) (hV.ln 9 (by decide) (show xL 9 = 7 from rfl)) (by omega) rfl ?_
                        rw [e9j]
                        refine g_aload_n (pc' := 140) hX dX1_augment_139 rfl rfl ?_
                        refine gf_X1_51 (pc' := 143) hX dX1_augment_140 hV.h0 hV.hk rfl ?_
                        rw [hV.f 12 (by decide) (show xF 12 = 12 from rfl)]
                        refine g_iload (pc' := 145) hX dX1_augment_143 rfl rfl ?_
                        
                        refine g_ialdL (pc' := 146) hX dX1_augment_145 (by have := hV.b0; omega) (hV.kk 12 (by decide) (show xK b 12 = 50 from rfl)) (hV.ln 12 (by decide) (show xL 12 = 7 from rfl)) (by omega) rfl ?_
                        rw [ek 12 j (by omega) (by omega)]
                        refine g_iload (pc' := 148) hX dX1_augment_146 rfl rfl ?_
                        refine g_isub (pc' := 149) hX dX1_augment_148 rfl ?_
                        refine g_iadd (pc' := 150) hX dX1_augment_149 rfl ?_
                        refine g_iastL (pc' := 151) hX dX1_augment_150 (by have := hV.hbb; omega) (hV.kk 9 (by decide) (show xK b 9 = 50 from rfl)) (hV.ln 9 (by decide) (show xL 9 = 7 from rfl)) (by omega) rfl ?_
                        refine AU.up 9 (by omega) hV hW hQ (fun v4 hV4 hW4 hQ4 g4 => ?_)
                        have hV := hV4
                        have r10 : rdw v4 (b + 10) j = rdw u1 (b + 10) j := by rw [g4 10 j, if_neg (by omega), ek 10 j (by omega) (by omega), k10]
                        have r12 : rdw v4 (b + 12) j = rdw u (b + 12) j := by rw [g4 12 j, if_neg (by omega), ek 12 j (by omega) (by omega)]
                        have r8 : rdw v4 (b + 8) (rdw u1 (b + 10) j) = rdw u1 (b + 8) (rdw u1 (b + 10) j) := by rw [g4 8 _, if_neg (by omega)]; exact e8j
                        refine g_aload_n (pc' := 152) hX dX1_augment_151 rfl rfl ?_
                        refine gf_X1_38 (pc' := 155) hX dX1_augment_152 hV.h0 hV.hk rfl ?_
                        first
                          | rw [hV.f 8 (by decide) (show xF 8 = 8 from rfl)]
                          | (repeat rw [rd_up_ne (by omega)]); rw [hV.f 8 (by decide) (show xF 8 = 8 from rfl)]
                        refine g_aload_n (pc' := 156) hX dX1_augment_155 rfl rfl ?_
                        refine gf_X1_45 (pc' := 159) hX dX1_augment_156 hV.h0 hV.hk rfl ?_
                        first
                          | rw [hV.f 10 (by decide) (show xF 10 = 10 from rfl)]
                          | (repeat rw [rd_up_ne (by omega)]); rw [hV.f 10 (by decide) (show xF 10 = 10 from rfl)]
                        refine g_iload (pc' := 161) hX dX1_augment_159 rfl rfl ?_
                        refine g_ialdL (pc' := 162) hX dX1_augment_161 (by have := hV.b0; omega) (hV.kk 10 (by decide) (show xK b 10 = 50 from rfl)) (hV.ln 10 (by decide) (show xL 10 = 7 from rfl)) (by omega) rfl ?_
                        repeat (first | rw [rd_up_ne (by omega)] | rw [rd_up_eq (by omega)])
                        rw [r10]
                        refine g_dup2 (pc' := 163) hX dX1_augment_162 (vI_cat _) (vR_cat _) rfl ?_
                        refine g_ialdL (pc' := 164) hX dX1_augment_163 (by have := hV.b0; omega) (hV.kk 8 (by decide) (show xK b 8 = 50 from rfl)) (hV.ln 8 (by decide) (show xL 8 = 7 from rfl)) (by omega) rfl ?_
                        repeat (first | rw [rd_up_ne (by omega)] | rw [rd_up_eq (by omega)])
                        rw [r8]
                        refine g_iload (pc' := 166) hX dX1_augment_164 rfl rfl ?_
                        refine g_aload_n (pc' := 167) hX dX1_augment_166 rfl rfl ?_
                        refine gf_X1_51 (pc' := 170) hX dX1_augment_167 hV.h0 hV.hk rfl ?_
                        first
                          | rw [hV.f 12 (by decide) (show xF 12 = 12 from rfl)]
                          | (repeat rw [rd_up_ne (by omega)]); rw [hV.f 12 (by decide) (show xF 12 = 12 from rfl)]
                        refine g_iload (pc' := 172) hX dX1_augment_170 rfl rfl ?_
                        refine g_ialdL (pc' := 173) hX dX1_augment_172 (by have := hV.b0; omega) (hV.kk 12 (by decide) (show xK b 12 = 50 from rfl)) (hV.ln 12 (by decide) (show xL 12 = 7 from rfl)) (by omega) rfl ?_
                        repeat (first | rw [rd_up_ne (by omega)] | rw [rd_up_eq (by omega)])
                        rw [r12]
                        refine g_isub (pc' := 174) hX dX1_augment_173 rfl ?_
                        refine g_iadd (pc' := 175) hX dX1_augment_174 rfl ?_
                        refine g_iastL (pc' := 176) hX dX1_augment_175 (by have := hV.hbb; omega) (hV.kk 8 (by decide) (show xK b 8 = 50 from rfl)) (hV.ln 8 (by decide) (show xL 8 = 7 from rfl)) (by omega) rfl ?_
                        refine AU.up 8 (by omega) hV4 hW4 hQ4 (fun v5 hV5 hW5 hQ5 g5 => ?_)
                        have hV := hV5
                        have n9 : ∀ q : Int, 0 ≤ q → rdw v5 (b + 9) q = if q < j + 1 ∧ rdw u (b + 14) q = 1 ∧ q ≠ x then rdw u1 (b + 9) q + (rdw u (b + 12) q - D) else rdw u1 (b + 9) q := fun q q0 => by
                          rw [g5 9 q, if_neg (by omega), g4 9 q]
                          by_cases hq : q = j
                          · rw [hq, if_pos ⟨rfl, rfl⟩, if_pos ⟨by omega, hs1, hjx⟩]
                          · rw [if_neg (fun z => hq z.2), e9 q q0]
                            (repeat' split) <;> first | rfl | (exfalso; omega)
                        have n8 : ∀ i : Int, 0 ≤ i → i < row → rdw v5 (b + 8) i = if rdw u1 (b + 11) i < j + 1 ∧ rdw u (b + 14) (rdw u1 (b + 11) i) = 1 ∧ rdw u1 (b + 11) i ≠ x then rdw u1 (b + 8) i + (D - rdw u (b + 12) (rdw u1 (b + 11) i)) else rdw u1 (b + 8) i := fun i i0 i1 => by
                          rw [g5 8 i]
                          by_cases hq : i = rdw u1 (b + 10) j
                          · rw [hq, if_pos ⟨rfl, rfl⟩, hrj.2, if_pos ⟨by omega, hs1, hjx⟩]
                          · have hc : rdw u1 (b + 11) i ≠ j := fun z => hq (by rw [← z]; exact (hH1.2.2.1 i i0 i1).2.1.symm)
                            rw [if_neg (fun z => hq z.2), g4 8 i, if_neg (by omega), e8 i i0 i1]
                            (repeat' split) <;> first | rfl | (exfalso; omega)
                        have n8k : rdw v5 (b + 8) row = rdw u1 (b + 8) row := by rw [g5 8 row, if_neg (by omega), g4 8 row, if_neg (by omega)]; exact e8k
                        have nk : ∀ t q : Int, 10 ≤ t → t ≤ 14 → rdw v5 (b + t) q = rdw u (b + t) q := fun t q t0 t1 => by rw [g5 t q, if_neg (by omega), g4 t q, if_neg (by omega)]; exact ek t q t0 t1
                        refine g_iinc_5 (pc' := 179) hX dX1_augment_176 (by decide) rfl rfl ?_
                        refine g_goto (tgt := 106) hX dX1_augment_179 (by decide) ?_
                        first
                          | exact ih (j + 1) v5 (by omega) (by omega) hV5 hW5 hQ5 n8 n8k n9 nk (by omega)
                          | exact ih (j + 1) v (by omega) (by omega) hV hW hQ (fun i i0 i1 => by rw [e8 i i0 i1]; exact ifst (rdw u (b + 14)) j (rdw u1 (b + 11) i) x hno) e8k (fun q q0 => by rw [e9 q q0]; exact ifst (rdw u (b + 14)) j q x hno) ek (by omega)
              exact GG_less (loop 100 0 u (by omega) (by omega) hV hW0 hQ0 (fun i i0 i1 => by have := (hH1.2.2.1 i i0 i1).1; rw [k8, if_neg (by omega)]) (k8 _) (fun q q0 => by rw [k9, if_neg (by omega)]) (fun t q _ _ => rfl) (by omega)) (by omega) (by omega)
            · skip
              have hro : 0 ≤ rdw u1 (b + 10) x ∧ rdw u1 (b + 10) x < row := by
                rcases hrx with z | z
                · exact absurd z (by omega)
                · exact ⟨z.1, z.2.1⟩
              obtain ⟨jo, hjo, hjs⟩ := hD.opn hH1 hk.2 hk.1 (by omega)
              have hmn := hD.mlt (by omega) ⟨hjo, hjs⟩
              have hdx : 0 ≤ rdw u (b + 12) x ∧ rdw u (b + 12) x ≤ 80000 := by
                have t1 := hD.2.2.1 x hx.1 hx.2
                have t2 := hvb1 x hx.1 hx.2
                have t3 := hCk x hx.1 hx.2
                have t4 := hR.2
                have t5 := (hD.2.1 x hx.1 hx.2).2.1
                omega
              have hfar : ∀ q : Int, 0 ≤ q → q < n → rdw u (b + 14) q = 0 → 0 ≤ rdw u (b + 12) x + (rdw u (b + 1 + rdw u1 (b + 10) x) q - rdw u (b + 8) (rdw u1 (b + 10) x) - rdw u (b + 9) q) ∧ rdw u (b + 12) x + (rdw u (b + 1 + rdw u1 (b + 10) x) q - rdw u (b + 8) (rdw u1 (b + 10) x) - rdw u (b + 9) q) < 1048576 := fun q q0 q1 _ => by
                rw [FF u hZ _ q hro.1 (by omega) q0 q1]
                have t1 := hH1.1 _ q hro.1 hro.2 q0 q1
                have t2 := hvb1 q q0 q1
                have t3 := hC _ q hro.1 (by omega) q0 q1
                have t4 := hub1 _ hro.1 hro.2
                omega
              refine g_aload_n (pc' := 72) hX dX1_augment_71 rfl rfl ?_
              refine g_aload_n (pc' := 73) hX dX1_augment_72 rfl rfl ?_
              refine gf_X1_45 (pc' := 76) hX dX1_augment_73 hV.h0 hV.hk rfl ?_
              rw [hV.f 10 (by decide) (show xF 10 = 10 from rfl)]
              refine g_iload_n (pc' := 77) hX dX1_augment_76 rfl rfl ?_
              refine g_ialdL (pc' := 78) hX dX1_augment_77 (by have := hV.b0; omega) (hV.kk 10 (by decide) (show xK b 10 = 50 from rfl)) (hV.ln 10 (by decide) (show xL 10 = 7 from rfl)) (by omega) rfl ?_
              rw [h10x]
              refine g_aload_n (pc' := 79) hX dX1_augment_78 rfl rfl ?_
              refine gf_X1_51 (pc' := 82) hX dX1_augment_79 hV.h0 hV.hk rfl ?_
              rw [hV.f 12 (by decide) (show xF 12 = 12 from rfl)]
              refine g_iload_n (pc' := 83) hX dX1_augment_82 rfl rfl ?_
              refine g_ialdL (pc' := 84) hX dX1_augment_83 (by have := hV.b0; omega) (hV.kk 12 (by decide) (show xK b 12 = 50 from rfl)) (hV.ln 12 (by decide) (show xL 12 = 7 from rfl)) (by omega) rfl ?_
              refine gV2U (pc' := 87) hX dX1_augment_84 ml_X1_271 gc_X1 hV.h0 hV.hk (c_s_relaxColumns (sz := n) hV hS hO hn.2 ((ZQ.kx hV1 hZ (by omega)).trans h6) (by omega) ⟨hro.1, by omega⟩ hfar) (Nat.le_of_ble_eq_true rfl) (by decide) ⟨by omega, by omega⟩ rfl (fun w84 q84 => ?_)
              obtain ⟨hV2, hG2, ⟨s2, S2, fd2, hS2, hO2, hfa2, hfb2⟩, o12, o13, o14⟩ := q84
              have hZ2 := ZQ.tr hZ hG2
              have o12b : rdw w84 (b + 12) jo < 1048576 := by
                have t0 := hfar jo hjo.1 hjo.2 hjs
                have t1 := hD.2.2.1 jo hjo.1 hjo.2
                have t2 := hvb1 jo hjo.1 hjo.2
                have t3 := hCk jo hjo.1 hjo.2
                have t4 := hR.2
                have t5 := o12 jo
                split at t5 <;> omega
              have hV := hV2
              refine g_aload_n (pc' := 88) hX dX1_augment_87 rfl rfl ?_
              refine gV0I0 (pc' := 91) hX dX1_augment_88 ml_X1_274 gc_X1 hV.h0 hV.hk (c_s_settleNext hV2 hS2 hO2 hn.2 ⟨jo, hjo.1, hjo.2, by rw [o14]; exact hjs, o12b⟩) (Nat.le_of_ble_eq_true rfl) (by decide) rfl (fun r88 w88 q88 => ?_)
              obtain ⟨y, hyr⟩ : ∃ y, y = r88 := ⟨_, rfl⟩
              rw [← hyr] at q88 ⊢
              obtain ⟨⟨hy, hy0, hyl, hym⟩, hV3, hF3, ⟨s3, S3, hS3, hO3⟩, p12, p13, p14⟩ := q88
              have hZ3 := ZQ.tr hZ2 hF3.gr
              have hD3 : DJ n row C (rdw u1 (b + 8)) (rdw u1 (b + 9)) (rdw u1 (b + 10)) (rdw w88 (b + 12)) (rdw w88 (b + 13)) (rdw w88 (b + 14)) (fun j => if j = y then m else od j) (m + 1) y := by
                refine hD.step hH1 hro ⟨hy, by rw [← o14]; exact hy0⟩ (fun q q0 q1 => ?_) (fun q q0 q1 => ?_) (fun q => by rw [p14, o14]) (fun j j0 j1 e => ?_)
                · have t1 := o12 q
                  rw [FF u hZ _ q hro.1 (by omega) q0 q1] at t1
                  rw [p12, t1]
                  (repeat' split) <;> first | rfl | (exfalso; omega)
                · have t1 := o13 q
                  rw [FF u hZ _ q hro.1 (by omega) q0 q1] at t1
                  rw [p13, t1]
                  (repeat' split) <;> first | rfl | (exfalso; omega)
                · rw [p12, p12]; exact hym j j0 j1 (by rw [o14]; exact e)
              refine g_istore_n_3 (pc' := 92) hX dX1_augment_91 (by decide) rfl rfl ?_
              refine g_goto (tgt := 61) hX dX1_augment_92 (by decide) ?_
              exact GG_less (ih y (m + 1) w88 s3 S3 fd2 _ hV3 hZ3 hS3 hO3 (by omega) (by omega) hD3 (by omega)) (by omega) (by omega)
        exact GG_less (loop 100 r57 1 w57 s4 S4 fd3 _ hV4 hZ4 hS4 hO4 (by omega) (by omega) hDJ (by omega)) (by omega) (by omega)
      · skip
        refine g_iload_n (pc' := 14) hX dX1_augment_13 rfl rfl ?_
        refine g_aload_n (pc' := 15) hX dX1_augment_14 rfl rfl ?_
        refine gf_X1_35 (pc' := 18) hX dX1_augment_15 hV.h0 hV.hk rfl ?_
        rw [hV.f 7 (by decide) (show xF 7 = 0 from rfl)]
        refine g_iload_n (pc' := 19) hX dX1_augment_18 rfl rfl ?_
        refine g_aaldL (pc' := 20) hX dX1_augment_19 (by have := hV.b0; omega) (by rw [hV.kk 0 (by decide) (show xK b 0 = 54 from rfl)]; decide) (hV.ln 0 (by decide) (show xL 0 = 7 from rfl)) (by omega) rfl ?_
        rw [hV.c0 (by omega)]
        refine g_iload_n (pc' := 21) hX dX1_augment_20 rfl rfl ?_
        refine g_ialdL (pc' := 22) hX dX1_augment_21 (by have := hV.b0; omega) (hV.ck (by omega)) (hV.cl (by omega)) (by omega) rfl ?_
        rw [hA row j hk.1 hk.2 j0 (by omega)]
        refine g_aload_n (pc' := 23) hX dX1_augment_22 rfl rfl ?_
        refine gf_X1_42 (pc' := 26) hX dX1_augment_23 hV.h0 hV.hk rfl ?_
        rw [hV.f 9 (by decide) (show xF 9 = 9 from rfl)]
        refine g_iload_n (pc' := 27) hX dX1_augment_26 rfl rfl ?_
        refine g_ialdL (pc' := 28) hX dX1_augment_27 (by have := hV.b0; omega) (hV.kk 9 (by decide) (show xK b 9 = 50 from rfl)) (hV.ln 9 (by decide) (show xL 9 = 7 from rfl)) (by omega) rfl ?_
        refine g_isub (pc' := 29) hX dX1_augment_28 rfl ?_
        have hvj := hvb j j0 (by omega)
        have hCj := hCk j j0 (by omega)
        refine g_mmin (pc' := 32) hX dX1_augment_29 q566 q211 q64 q212 (by omega) (by omega) (by omega) (Nat.le_of_ble_eq_true rfl) rfl ?_
        refine g_istore_n_2 (pc' := 33) hX dX1_augment_32 (by decide) rfl rfl ?_
        refine g_iinc_3 (pc' := 36) hX dX1_augment_33 (by decide) rfl rfl ?_
        refine g_goto (tgt := 5) hX dX1_augment_36 (by decide) ?_
        refine ih _ (j + 1) (by omega) (by omega) ?_ ?_ (fun q q0 q1 => ?_) (by omega)
        · split <;> omega
        · split <;> omega
        · by_cases hq : q = j
          · rw [hq]; split <;> omega
          · have := hL q q0 (by omega)
            split <;> omega
  exact loop 100 1048576 0 (by omega) (by omega) (by omega) (by omega) (fun q q0 q1 => by omega) (by omega)

end S4S
