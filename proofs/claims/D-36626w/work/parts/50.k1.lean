/-! ROWS: int[7][7] made, constructors of nest mates; Ways, Parts, comparators (by gen/spec_k1.py) -/
set_option maxRecDepth 100000
set_option maxHeartbeats 4000000
/-- an int[7][7] made -/
def mlw (w : Wd) : Wd := (fun b j => if b = szw w then szw w + 1 + j else if szw w < b ∧ b ≤ szw w + 7 then 0 else w.1 b j, fun b => if b = szw w then 54 else if szw w < b ∧ b ≤ szw w + 7 then 50 else w.2.1 b, fun b => if szw w ≤ b ∧ b ≤ szw w + 7 then 7 else w.2.2.1 b, szw w + 8)
theorem rd_ml {w : Wd} {b j : Int} : rdw (mlw w) b j = if b = szw w then szw w + 1 + j else if szw w < b ∧ b ≤ szw w + 7 then 0 else rdw w b j := rfl
theorem kd_ml {w : Wd} {b : Int} : kdw (mlw w) b = if b = szw w then 54 else if szw w < b ∧ b ≤ szw w + 7 then 50 else kdw w b := rfl
theorem ln_ml {w : Wd} {b : Int} : lnw (mlw w) b = if szw w ≤ b ∧ b ≤ szw w + 7 then 7 else lnw w b := rfl
theorem sz_ml {w : Wd} : szw (mlw w) = szw w + 8 := rfl
theorem wRep_ml {E : Ev} {w : Wd} {H H1 : Heap} (h : wRep E w H) (hz : H1.size = H.size + 8) (ho : ∀ q : Nat, q < H.size → H1[q]? = H[q]?) (h0 : H1[H.size]? = some (arrV (eA E 4) 7 (fun j => vR (szw w + 1 + (j : Int)))))
    (hi : ∀ j : Nat, j < 7 → H1[H.size + 1 + j]? = some (arrV (eA E 0) 7 (fun _ => vI 0))) : wRep E (mlw w) H1 := by
  have hs := h.1
  have hk4 : ak 54 = 4 := rfl
  have hk0 : ak 50 = 0 := rfl
  have ht4 : aT 54 = .array .int := rfl
  have ht0 : aT 50 = .int := rfl
  refine ⟨by rw [hz, sz_ml]; omega, fun q hq => ?_⟩
  by_cases e : (q : Int) = szw w
  · have e2 : q = H.size := by omega
    have hf : (fun j : Nat => tv (aT 54) (rdw (mlw w) (q : Int) (j : Int))) = fun j : Nat => vR (szw w + 1 + (j : Int)) := by
      funext j
      rw [rd_ml, if_pos e]
      rfl
    rw [kd_ml, if_pos e, ln_ml, if_pos (by omega)]
    unfold wAt
    rw [if_neg (by omega), hk4, hf, e2, h0]
    rfl
  · by_cases e3 : szw w < q ∧ (q : Int) ≤ szw w + 7
    · have hf : (fun j : Nat => tv (aT 50) (rdw (mlw w) (q : Int) (j : Int))) = fun _ : Nat => vI 0 := by
        funext j
        rw [rd_ml, if_neg e, if_pos e3]
        rfl
      have e4 : q = H.size + 1 + (q - H.size - 1) := by omega
      rw [kd_ml, if_neg e, if_pos e3, ln_ml, if_pos (by omega)]
      unfold wAt
      rw [if_neg (by omega), hk0, hf, e4, hi _ (by omega)]
      rfl
    · have hf : rdw (mlw w) (q : Int) = rdw w q := by
        funext j
        rw [rd_ml, if_neg e, if_neg e3]
      rw [kd_ml, if_neg e, if_neg e3] at hq ⊢
      rw [ln_ml, if_neg (by omega), hf]
      have h1 := h.2 q hq
      exact wAt_kept h1 (ho q (wAt_lt h1))
theorem outer_eta (c : ClassId) (N h0 : Nat) : ∀ i, Jvm.Free.Multi.outerC c N h0 i = { cls := c, slots := (Jvm.Free.Multi.outerC c N h0 i).slots, vm := .none }
  | 0 => rfl
  | i + 1 => by
    show (Jvm.Free.Multi.outerC c N h0 i).setSlot i (.ref (h0 + 1 + i)) = { cls := c, slots := ((Jvm.Free.Multi.outerC c N h0 i).setSlot i (.ref (h0 + 1 + i))).slots, vm := .none }
    rw [outer_eta c N h0 i]
    rfl
theorem outer_arr {c : ClassId} {N h0 : Nat} : Jvm.Free.Multi.outerC c N h0 N = arrV c N (fun j => .ref (h0 + 1 + j)) := by
  obtain ⟨f1, f2, f3⟩ := Jvm.Free.Multi.outerC_facts c N h0 N
  have hs : (Jvm.Free.Multi.outerC c N h0 N).slots = (arrV c N (fun j => .ref (h0 + 1 + j))).slots := by
    apply Array.ext
    · rw [f3, arrV_size]
    · intro i i1 i2
      rw [f3] at i1
      have h1 := Jvm.Free.Multi.outerC_slot c N h0 N i i1
      have h2 := arrV_read c (fun j => .ref (h0 + 1 + j)) i1
      rw [if_pos i1, ← h2] at h1
      have h3 := (Array.getElem?_eq_getElem (xs := (Jvm.Free.Multi.outerC c N h0 N).slots) (by rw [f3]; exact i1)).symm.trans (h1.trans (Array.getElem?_eq_getElem i2))
      exact Option.some.inj h3
  rw [outer_eta, hs]
  rfl
section K1R
variable {X : Cx} {E : Ev} {own : String} {cc : ByteArray} {nL d bc bs : Nat} {w : Wd} {pc pc' : Nat} {lv : List (Nat × Int)} {st : List Value}
theorem g_multi {idx : Nat} (h : Ok X E own cc nL d) (dg : decode cc pc = .ok (.multianewarray idx 2, 4)) (hq : Jvm.Cond.classLink own idx "[[I" ∈ lw_all) (q2 : Jvm.Cond.arrayClass .int ∈ lw_all) (hc1 : 8 ≤ bc) (hc2 : 56 ≤ bs) (hp : pc + 4 = pc') (K : GG X (bc - 8) (bs - 56) (mlw w) pc' lv (vR (szw w) :: st)) : GG X bc bs w pc lv (vI 7 :: vI 7 :: st) := by
  subst hp
  intro H locs ls cells slots hR b c e f
  obtain ⟨hx, hb, hml, hown, hts, hKn, hSt, hRm, hTr, hlE, hbs, hlk, hE⟩ := h
  subst hE
  intro T hT XS
  have h7 : (Int32.ofInt 7).toNatClampNeg = 7 := by decide
  have hAO := hKn.2.2.2.2.2.2.2.2.2.2.2.2.2.2
  obtain ⟨vm₁, cA, comp, hW, hfA, hfC, hO, hI, X1, step⟩ := XS.multianewarray2F hx (own := own) (index := idx) (ty := .int) hown (hts _ hq) (wAO.use hAO) (hts _ q2) (g := F0 (cM X) pc ls (vI 7 :: vI 7 :: st)) rfl (by rw [hb]; exact dg) (n := Int32.ofInt 7) (k := Int32.ofInt 7) (rest := st) rfl (by decide) (by decide) (by decide) (by decide) (by decide) rfl rfl (by rw [h7]; omega) (by rw [h7]; omega)
  simp only [h7] at X1 step
  obtain ⟨f1, f2, f3, f4⟩ := Jvm.Free.Multi.fill_facts (T.setVm vm₁) cA comp 7 7 (defaultValue .int) 7
  have hcA : cA = eA (cV X) 4 := va_ra_eq hKn (by decide) hfA
  have hcC : comp = eA (cV X) 0 := va_ra_eq hKn (by decide) hfC
  have hh : (T.setVm vm₁).heap = H := hT
  rw [hh] at f1 f2
  have hv : vR (szw w) = .ref T.heap.size := by rw [hT, ← hR.1]; exact vR_nat _
  rw [hv] at K
  have o1 : ∀ q : Nat, q < H.size → (Jvm.Free.Multi.fill (T.setVm vm₁) cA comp 7 7 (defaultValue .int) 7).heap[q]? = H[q]? := fun q hq => by
    rw [Jvm.Free.Multi.fill_old (T.setVm vm₁) cA comp 7 7 (defaultValue .int) (by rw [hh]; exact hq) 7, hh]
  have hW2 : wRep (cV X) (mlw w) (Jvm.Free.Multi.fill (T.setVm vm₁) cA comp 7 7 (defaultValue .int) 7).heap := by
    refine wRep_ml hR (by rw [f1]) o1 ?_ (fun j hj => ?_)
    · have hf : (fun j : Nat => vR (szw w + 1 + (j : Int))) = fun j : Nat => Value.ref (H.size + 1 + j) := by
        funext j
        rw [← hR.1, show (H.size : Int) + 1 + (j : Int) = ((H.size + 1 + j : Nat) : Int) by omega, vR_nat]
      rw [f2, outer_arr, hcA, hf]
    · have h1 := Jvm.Free.Multi.fill_inner (T.setVm vm₁) cA comp 7 7 (defaultValue .int) 7 j hj
      rw [hh] at h1
      rw [h1, hcC]
      unfold Jvm.Free.Multi.innerC
      rw [arrV_new]
      rfl
  obtain ⟨t, a1, b1⟩ := K _ locs ls (cells + 1 + 7) (slots + 7 + 7 * 7) hW2 ⟨Nat.le_trans b.1 (by rw [f1]; omega), fun x h1 h2 => (o1 x (Nat.lt_of_lt_of_le h1 b.1)).trans (b.2.1 x h1 h2), b.2.2⟩ c (by omega) (by omega) _ rfl X1
  exact ⟨t, step t a1, b1⟩
theorem g_nest {idx : Nat} {host : String} {M : Mth} {d' : Nat} {a : Int} (h : Ok X E own cc nL d) (dg : decode cc pc = .ok (.invokespecial idx, 3)) (hN : ∀ U, Kn E U → va_Nw (.methodLinkNest own idx M.1 host) U) (g1 : GoodIn lw_all (ws_ M.1 M.2.1 M.2.2.1 none)) (g2 : M.2.2.2 = none) (g3 : Jvm.Cond.initialized M.1.cls ∈ lw_all) (g5 : Jvm.Cond.instanceMethod M.1 ∈ lw_all) (g6 : M.1.name = "<init>")
    (g7 : M.1.cls ≠ "java/lang/invoke/MethodHandle" ∧ M.1.cls ≠ "java/lang/invoke/VarHandle" ∧ (parseMethodDescriptor M.1.desc).map (fun d => d.parameters.length) = some 0) (g8 : M.2.2.1 ≤ 45) (ha : 0 ≤ a) (hM : Call E M d' 0 0 [vR a] w (qEU w)) (hs : st.length ≤ 4) (hd : d' + 1 ≤ d) (hp : pc + 3 = pc') (kk : GG X bc bs w pc' lv st) : GG X bc bs w pc lv (vR a :: st) := by
  subst hp
  intro H locs ls cells slots hR b c e f
  have hOk := h
  obtain ⟨hx, hb, hml, hown, hts, hKn, hSt, hRm, hTr, hlE, hbs, hlk, hE⟩ := h
  subst hE
  have hsum := cats_le st
  unfold Call at hM
  rw [vR_pos ha, ← hlE, g2] at hM
  rw [vR_pos ha]
  refine call_done (bc := bc) (bs := bs) b c e f ⟨Nat.zero_le _, Nat.zero_le _⟩ (vx_runIN (host := host) (As := []) (rest := st) (n := 0) ⟨hx, hb, hml, hown, hts⟩ hM ⟨va_cnB 0 hts g1 rfl rfl rfl (hN _ hKn) (hts _ g3) g7 ⟨?_, ?_⟩, g6, hts _ g5⟩ ⟨wIn_blind, fun U hU hW => in_at hOk hR b hU hW⟩ rfl rfl (c.1.trans hml) rfl (lv_room (by omega)) dg (by omega)) (fun v w' hq => by obtain ⟨-, rfl, rfl⟩ := hq; exact kk) (fun k w' hk hq => absurd hq.1 hk)
  · show d' + 1 ≤ _
    omega
  · show 8 + (M.2.2.1 + 11) + 64 * d' ≤ _
    omega
end K1R
theorem lt_io : LinkT RX1 118 120 1 := by
  refine ⟨q931, q76, ?_, ?_, ?_, ?_⟩ <;> decide +kernel
theorem lt_ia : LinkT RX1 121 123 2 := by
  refine ⟨q1003, q73, ?_, ?_, ?_, ?_⟩ <;> decide +kernel
theorem lt_is : LinkT RX1 124 126 3 := by
  refine ⟨q1103, q83, ?_, ?_, ?_, ?_⟩ <;> decide +kernel
/-- a way in order, a part in order -/
def WV (w : Wd) (r : Int) : Prop := (0 ≤ r ∧ kdw w r = 3) ∧ (0 ≤ rdw w r 0 ∧ rdw w r 0 < 1048576) ∧ (0 ≤ rdw w r 1 ∧ rdw w r 1 < 4096) ∧ 0 ≤ rdw w r 2 ∧ rdw w r 2 < 7
def rkW (w : Wd) (r : Int) : Int := 4096 * rdw w r 0 + rdw w r 1
def PV4 (w : Wd) (r : Int) : Prop := (0 ≤ r ∧ kdw w r = 4) ∧ (0 ≤ rdw w r 0 ∧ rdw w r 0 < 1000000) ∧ (0 ≤ rdw w r 1 ∧ rdw w r 1 < 8) ∧ (0 ≤ rdw w r 2 ∧ rdw w r 2 < 10000000) ∧ 0 ≤ rdw w r 3 ∧ rdw w r 3 < 128
def rkP (w : Wd) (r : Int) : Int := 100000000 * rdw w r 0 + 10000000 * rdw w r 1 + rdw w r 2
section K1S
variable {E : Ev} {w : Wd} {co x y a b c e0 : Int}
theorem c_k_bycost (hx : (eB E : Int) ≤ x) : Call E mX2_init 1 0 0 [vR x] w (qEU w) := by
  refine call_of (av := [(1, x)]) (by decide +kernel) rfl (Nat.le_of_ble_eq_true rfl) ?_
  intro X hX hF hname
  show GG X 0 0 w 0 [(1, x)] []
  refine g_aload_n (pc' := 1) hX dX2_init_0 rfl rfl ?_
  refine g_objInit (pc' := 4) hX dX2_init_1 q227 q99 q100 (nn_b hx) (by decide) (Nat.le_of_ble_eq_true rfl) rfl ?_
  exact g_retEU hX hF dX2_init_4 (rfl)

theorem c_k_bybound (hx : (eB E : Int) ≤ x) : Call E mX3_init 1 0 0 [vR x] w (qEU w) := by
  refine call_of (av := [(1, x)]) (by decide +kernel) rfl (Nat.le_of_ble_eq_true rfl) ?_
  intro X hX hF hname
  show GG X 0 0 w 0 [(1, x)] []
  refine g_aload_n (pc' := 1) hX dX3_init_0 rfl rfl ?_
  refine g_objInit (pc' := 4) hX dX3_init_1 q326 q99 q100 (nn_b hx) (by decide) (Nat.le_of_ble_eq_true rfl) rfl ?_
  exact g_retEU hX hF dX3_init_4 (rfl)

theorem c_k_way (hx : (eB E : Int) ≤ x) (hk : kdw w x = 3) : Call E mX5_init 1 0 0 [vR x, vI a, vI b, vI c] w (qEU (upw (upw (upw w x 0 a) x 1 b) x 2 c)) := by
  refine call_of (av := [(1, x), (0, a), (0, b), (0, c)]) (by decide +kernel) rfl (Nat.le_of_ble_eq_true rfl) ?_
  intro X hX hF hname
  show GG X 0 0 w 0 [(1, x), (0, a), (0, b), (0, c)] []
  refine g_aload_n (pc' := 1) hX dX5_init_0 rfl rfl ?_
  refine g_objInit (pc' := 4) hX dX5_init_1 q588 q99 q100 (nn_b hx) (by decide) (Nat.le_of_ble_eq_true rfl) rfl ?_
  refine g_aload_n (pc' := 5) hX dX5_init_4 rfl rfl ?_
  refine g_iload_n (pc' := 6) hX dX5_init_5 rfl rfl ?_
  refine pf_X5_7 (pc' := 9) hX hname dX5_init_6 hx hk rfl ?_
  skip
  refine g_aload_n (pc' := 10) hX dX5_init_9 rfl rfl ?_
  refine g_iload_n (pc' := 11) hX dX5_init_10 rfl rfl ?_
  refine pf_X5_13 (pc' := 14) hX hname dX5_init_11 hx hk rfl ?_
  skip
  refine g_aload_n (pc' := 15) hX dX5_init_14 rfl rfl ?_
  refine g_iload_n (pc' := 16) hX dX5_init_15 rfl rfl ?_
  refine pf_X5_16 (pc' := 19) hX hname dX5_init_16 hx hk rfl ?_
  skip
  exact g_retEU hX hF dX5_init_19 (rfl)

theorem c_k_part (hx : (eB E : Int) ≤ x) (hk : kdw w x = 4) : Call E mX6_init 1 0 0 [vR x, vI a, vI b, vI c, vI e0] w (qEU (upw (upw (upw (upw w x 0 a) x 1 b) x 2 c) x 3 e0)) := by
  refine call_of (av := [(1, x), (0, a), (0, b), (0, c), (0, e0)]) (by decide +kernel) rfl (Nat.le_of_ble_eq_true rfl) ?_
  intro X hX hF hname
  show GG X 0 0 w 0 [(1, x), (0, a), (0, b), (0, c), (0, e0)] []
  refine g_aload_n (pc' := 1) hX dX6_init_0 rfl rfl ?_
  refine g_objInit (pc' := 4) hX dX6_init_1 q1455 q99 q100 (nn_b hx) (by decide) (Nat.le_of_ble_eq_true rfl) rfl ?_
  refine g_aload_n (pc' := 5) hX dX6_init_4 rfl rfl ?_
  refine g_iload_n (pc' := 6) hX dX6_init_5 rfl rfl ?_
  refine pf_X6_7 (pc' := 9) hX hname dX6_init_6 hx hk rfl ?_
  skip
  refine g_aload_n (pc' := 10) hX dX6_init_9 rfl rfl ?_
  refine g_iload_n (pc' := 11) hX dX6_init_10 rfl rfl ?_
  refine pf_X6_13 (pc' := 14) hX hname dX6_init_11 hx hk rfl ?_
  skip
  refine g_aload_n (pc' := 15) hX dX6_init_14 rfl rfl ?_
  refine g_iload_n (pc' := 16) hX dX6_init_15 rfl rfl ?_
  refine pf_X6_16 (pc' := 19) hX hname dX6_init_16 hx hk rfl ?_
  skip
  refine g_aload_n (pc' := 20) hX dX6_init_19 rfl rfl ?_
  refine g_iload (pc' := 22) hX dX6_init_20 rfl rfl ?_
  refine pf_X6_19 (pc' := 25) hX hname dX6_init_22 hx hk rfl ?_
  skip
  exact g_retEU hX hF dX6_init_25 (rfl)

theorem c_k_cmpW2 (hx : WV w x) (hy : WV w y) : Call E mX2_compare_2 1 0 0 [vR co, vR x, vR y] w (qE (if rdw w x 0 = rdw w y 0 then (if rdw w x 1 < rdw w y 1 then -1 else if rdw w x 1 = rdw w y 1 then 0 else 1) else (if rdw w x 0 < rdw w y 0 then -1 else if rdw w x 0 = rdw w y 0 then 0 else 1)) w) := by
  refine call_of (av := [(1, co), (1, x), (1, y)]) (by decide +kernel) rfl (Nat.le_of_ble_eq_true rfl) ?_
  intro X hX hF hname
  show GG X 0 0 w 0 [(1, co), (1, x), (1, y)] []
  obtain ⟨x1, x2, x3, x4⟩ := id hx
  obtain ⟨y1, y2, y3, y4⟩ := id hy
  refine g_aload_n (pc' := 1) hX dX2_compare_2_0 rfl rfl ?_
  refine gf_X2_7 (pc' := 4) hX dX2_compare_2_1 hx.1.1 hx.1.2 rfl ?_
  refine g_aload_n (pc' := 5) hX dX2_compare_2_4 rfl rfl ?_
  refine gf_X2_7 (pc' := 8) hX dX2_compare_2_5 hy.1.1 hy.1.2 rfl ?_
  refine g_icmp_eq (pc' := 11) (tgt := 25) hX dX2_compare_2_8 (by decide) rfl (by omega) (by omega) (fun h8 => ?_) (fun h8 => ?_)
  · skip
    refine g_aload_n (pc' := 26) hX dX2_compare_2_25 rfl rfl ?_
    refine gf_X2_19 (pc' := 29) hX dX2_compare_2_26 hx.1.1 hx.1.2 rfl ?_
    refine g_aload_n (pc' := 30) hX dX2_compare_2_29 rfl rfl ?_
    refine gf_X2_19 (pc' := 33) hX dX2_compare_2_30 hy.1.1 hy.1.2 rfl ?_
    refine gS2E0 (pc' := 36) hX dX2_compare_2_33 ml_X2_13 (c_j_compare (by omega) (by omega)) (Nat.le_of_ble_eq_true rfl) (by decide) rfl ?_
    exact g_retE hX hF dX2_compare_2_36 (by (repeat' split) <;> omega) rfl
  · skip
    refine g_aload_n (pc' := 12) hX dX2_compare_2_11 rfl rfl ?_
    refine gf_X2_7 (pc' := 15) hX dX2_compare_2_12 hx.1.1 hx.1.2 rfl ?_
    refine g_aload_n (pc' := 16) hX dX2_compare_2_15 rfl rfl ?_
    refine gf_X2_7 (pc' := 19) hX dX2_compare_2_16 hy.1.1 hy.1.2 rfl ?_
    refine gS2E0 (pc' := 22) hX dX2_compare_2_19 ml_X2_13 (c_j_compare (by omega) (by omega)) (Nat.le_of_ble_eq_true rfl) (by decide) rfl ?_
    refine g_goto (tgt := 36) hX dX2_compare_2_22 (by decide) ?_
    exact g_retE hX hF dX2_compare_2_36 (by (repeat' split) <;> omega) rfl

theorem c_k_cmpW (hco : 0 ≤ co) (hkc : kdw w co = 5) (hx : WV w x) (hy : WV w y) : Call E mX2_compare 2 0 0 [vR co, vR x, vR y] w (qE (if rdw w x 0 = rdw w y 0 then (if rdw w x 1 < rdw w y 1 then -1 else if rdw w x 1 = rdw w y 1 then 0 else 1) else (if rdw w x 0 < rdw w y 0 then -1 else if rdw w x 0 = rdw w y 0 then 0 else 1)) w) := by
  refine call_of (av := [(1, co), (1, x), (1, y)]) (by decide +kernel) rfl (Nat.le_of_ble_eq_true rfl) ?_
  intro X hX hF hname
  show GG X 0 0 w 0 [(1, co), (1, x), (1, y)] []
  refine g_aload_n (pc' := 1) hX dX2_compare_0 rfl rfl ?_
  refine g_aload_n (pc' := 2) hX dX2_compare_1 rfl rfl ?_
  refine g_cast (pc' := 5) hX dX2_compare_2 gc_X5 q643 hx.1.1 hx.1.2 rfl ?_
  refine g_aload_n (pc' := 6) hX dX2_compare_5 rfl rfl ?_
  refine g_cast (pc' := 9) hX dX2_compare_6 gc_X5 q643 hy.1.1 hy.1.2 rfl ?_
  refine gV2E0 (pc' := 12) hX dX2_compare_9 ml_X2_22 gc_X2 hco hkc (c_k_cmpW2 hx hy) (Nat.le_of_ble_eq_true rfl) (by decide) rfl ?_
  exact g_retE hX hF dX2_compare_12 (rfl) rfl

theorem c_k_cmpP2 (hx : PV4 w x) (hy : PV4 w y) : Call E mX3_compare_2 1 0 0 [vR co, vR x, vR y] w (qE (if rdw w x 0 = rdw w y 0 then (if rdw w x 1 = rdw w y 1 then (if rdw w x 2 < rdw w y 2 then -1 else if rdw w x 2 = rdw w y 2 then 0 else 1) else (if rdw w x 1 < rdw w y 1 then -1 else if rdw w x 1 = rdw w y 1 then 0 else 1)) else (if rdw w x 0 < rdw w y 0 then -1 else if rdw w x 0 = rdw w y 0 then 0 else 1)) w) := by
  refine call_of (av := [(1, co), (1, x), (1, y)]) (by decide +kernel) rfl (Nat.le_of_ble_eq_true rfl) ?_
  intro X hX hF hname
  show GG X 0 0 w 0 [(1, co), (1, x), (1, y)] []
  obtain ⟨x1, x2, x3, x4, x5⟩ := id hx
  obtain ⟨y1, y2, y3, y4, y5⟩ := id hy
  refine g_aload_n (pc' := 1) hX dX3_compare_2_0 rfl rfl ?_
  refine gf_X3_7 (pc' := 4) hX dX3_compare_2_1 hx.1.1 hx.1.2 rfl ?_
  refine g_aload_n (pc' := 5) hX dX3_compare_2_4 rfl rfl ?_
  refine gf_X3_7 (pc' := 8) hX dX3_compare_2_5 hy.1.1 hy.1.2 rfl ?_
  refine g_icmp_eq (pc' := 11) (tgt := 23) hX dX3_compare_2_8 (by decide) rfl (by omega) (by omega) (fun h8 => ?_) (fun h8 => ?_)
  · skip
    refine g_aload_n (pc' := 24) hX dX3_compare_2_23 rfl rfl ?_
    refine gf_X3_19 (pc' := 27) hX dX3_compare_2_24 hx.1.1 hx.1.2 rfl ?_
    refine g_aload_n (pc' := 28) hX dX3_compare_2_27 rfl rfl ?_
    refine gf_X3_19 (pc' := 31) hX dX3_compare_2_28 hy.1.1 hy.1.2 rfl ?_
    refine g_icmp_eq (pc' := 34) (tgt := 48) hX dX3_compare_2_31 (by decide) rfl (by omega) (by omega) (fun h31 => ?_) (fun h31 => ?_)
    · skip
      refine g_aload_n (pc' := 49) hX dX3_compare_2_48 rfl rfl ?_
      refine gf_X3_22 (pc' := 52) hX dX3_compare_2_49 hx.1.1 hx.1.2 rfl ?_
      refine g_aload_n (pc' := 53) hX dX3_compare_2_52 rfl rfl ?_
      refine gf_X3_22 (pc' := 56) hX dX3_compare_2_53 hy.1.1 hy.1.2 rfl ?_
      refine gS2E0 (pc' := 59) hX dX3_compare_2_56 ml_X3_13 (c_j_compare (by omega) (by omega)) (Nat.le_of_ble_eq_true rfl) (by decide) rfl ?_
      exact g_retE hX hF dX3_compare_2_59 (by (repeat' split) <;> omega) rfl
    · skip
      refine g_aload_n (pc' := 35) hX dX3_compare_2_34 rfl rfl ?_
      refine gf_X3_19 (pc' := 38) hX dX3_compare_2_35 hx.1.1 hx.1.2 rfl ?_
      refine g_aload_n (pc' := 39) hX dX3_compare_2_38 rfl rfl ?_
      refine gf_X3_19 (pc' := 42) hX dX3_compare_2_39 hy.1.1 hy.1.2 rfl ?_
      refine gS2E0 (pc' := 45) hX dX3_compare_2_42 ml_X3_13 (c_j_compare (by omega) (by omega)) (Nat.le_of_ble_eq_true rfl) (by decide) rfl ?_
      refine g_goto (tgt := 59) hX dX3_compare_2_45 (by decide) ?_
      exact g_retE hX hF dX3_compare_2_59 (by (repeat' split) <;> omega) rfl
  · skip
    refine g_aload_n (pc' := 12) hX dX3_compare_2_11 rfl rfl ?_
    refine gf_X3_7 (pc' := 15) hX dX3_compare_2_12 hx.1.1 hx.1.2 rfl ?_
    refine g_aload_n (pc' := 16) hX dX3_compare_2_15 rfl rfl ?_
    refine gf_X3_7 (pc' := 19) hX dX3_compare_2_16 hy.1.1 hy.1.2 rfl ?_
    refine gS2E0 (pc' := 22) hX dX3_compare_2_19 ml_X3_13 (c_j_compare (by omega) (by omega)) (Nat.le_of_ble_eq_true rfl) (by decide) rfl ?_
    exact g_retE hX hF dX3_compare_2_22 (by (repeat' split) <;> omega) rfl

theorem c_k_cmpP (hco : 0 ≤ co) (hkc : kdw w co = 6) (hx : PV4 w x) (hy : PV4 w y) : Call E mX3_compare 2 0 0 [vR co, vR x, vR y] w (qE (if rdw w x 0 = rdw w y 0 then (if rdw w x 1 = rdw w y 1 then (if rdw w x 2 < rdw w y 2 then -1 else if rdw w x 2 = rdw w y 2 then 0 else 1) else (if rdw w x 1 < rdw w y 1 then -1 else if rdw w x 1 = rdw w y 1 then 0 else 1)) else (if rdw w x 0 < rdw w y 0 then -1 else if rdw w x 0 = rdw w y 0 then 0 else 1)) w) := by
  refine call_of (av := [(1, co), (1, x), (1, y)]) (by decide +kernel) rfl (Nat.le_of_ble_eq_true rfl) ?_
  intro X hX hF hname
  show GG X 0 0 w 0 [(1, co), (1, x), (1, y)] []
  refine g_aload_n (pc' := 1) hX dX3_compare_0 rfl rfl ?_
  refine g_aload_n (pc' := 2) hX dX3_compare_1 rfl rfl ?_
  refine g_cast (pc' := 5) hX dX3_compare_2 gc_X6 q629 hx.1.1 hx.1.2 rfl ?_
  refine g_aload_n (pc' := 6) hX dX3_compare_5 rfl rfl ?_
  refine g_cast (pc' := 9) hX dX3_compare_6 gc_X6 q629 hy.1.1 hy.1.2 rfl ?_
  refine gV2E0 (pc' := 12) hX dX3_compare_9 ml_X3_25 gc_X3 hco hkc (c_k_cmpP2 hx hy) (Nat.le_of_ble_eq_true rfl) (by decide) rfl ?_
  exact g_retE hX hF dX3_compare_12 (rfl) rfl

theorem WV.gr {P : Int → Int → Prop} {w w' : Wd} {r : Int} (h : WV w r) (hG : Gr P w w') (hn : ∀ i, ¬ P r i) : WV w' r ∧ rkW w' r = rkW w r ∧ ∀ i, rdw w' r i = rdw w r i := by
  have hk : kdw w r ≠ 0 := by rw [h.1.2]; decide
  have e : ∀ i, rdw w' r i = rdw w r i := fun i => hG.rd hk (hn i)
  refine ⟨⟨⟨h.1.1, (hG.kd hk).trans h.1.2⟩, ?_, ?_, ?_⟩, ?_, e⟩
  · rw [e]; exact h.2.1
  · rw [e]; exact h.2.2.1
  · rw [e]; exact h.2.2.2
  · unfold rkW; rw [e, e]
theorem PV4.gr {P : Int → Int → Prop} {w w' : Wd} {r : Int} (h : PV4 w r) (hG : Gr P w w') (hn : ∀ i, ¬ P r i) : PV4 w' r ∧ rkP w' r = rkP w r ∧ ∀ i, rdw w' r i = rdw w r i := by
  have hk : kdw w r ≠ 0 := by rw [h.1.2]; decide
  have e : ∀ i, rdw w' r i = rdw w r i := fun i => hG.rd hk (hn i)
  refine ⟨⟨⟨h.1.1, (hG.kd hk).trans h.1.2⟩, ?_, ?_, ?_, ?_⟩, ?_, e⟩
  · rw [e]; exact h.2.1
  · rw [e]; exact h.2.2.1
  · rw [e]; exact h.2.2.2.1
  · rw [e]; exact h.2.2.2.2
  · unfold rkP; rw [e, e, e]
/-- the comparators' contracts as the queue wants them -/
theorem CMG_W {P : Int → Prop} {T : Int → Prop} (hco : 0 ≤ co) (hkc : kdw w co = 5) (hT : ∀ r, T r → WV w r ∧ ¬ P r) : CMG E w P co mX2_compare 2 (rkW w) T := by
  intro w' hG x y hx hy
  obtain ⟨x1, x2⟩ := hT x hx
  obtain ⟨y1, y2⟩ := hT y hy
  obtain ⟨gx, rx, ex⟩ := x1.gr hG (fun _ => x2)
  obtain ⟨gy, ry, ey⟩ := y1.gr hG (fun _ => y2)
  have hk' : kdw w' co = 5 := (hG.kd (by rw [hkc]; decide)).trans hkc
  have h := c_k_cmpW (E := E) hco hk' gx gy
  refine ⟨_, ?_, ?_, ?_, h⟩
  · (repeat' split) <;> omega
  · rw [← rx, ← ry]
    obtain ⟨-, a1, a2, -⟩ := gx
    obtain ⟨-, b1, b2, -⟩ := gy
    unfold rkW
    (repeat' split) <;> omega
  · rw [← rx, ← ry]
    obtain ⟨-, a1, a2, -⟩ := gx
    obtain ⟨-, b1, b2, -⟩ := gy
    unfold rkW
    (repeat' split) <;> omega
theorem CMG_P {P : Int → Prop} {T : Int → Prop} (hco : 0 ≤ co) (hkc : kdw w co = 6) (hT : ∀ r, T r → PV4 w r ∧ ¬ P r) : CMG E w P co mX3_compare 2 (rkP w) T := by
  intro w' hG x y hx hy
  obtain ⟨x1, x2⟩ := hT x hx
  obtain ⟨y1, y2⟩ := hT y hy
  obtain ⟨gx, rx, ex⟩ := x1.gr hG (fun _ => x2)
  obtain ⟨gy, ry, ey⟩ := y1.gr hG (fun _ => y2)
  have hk' : kdw w' co = 6 := (hG.kd (by rw [hkc]; decide)).trans hkc
  have h := c_k_cmpP (E := E) hco hk' gx gy
  refine ⟨_, ?_, ?_, ?_, h⟩
  · (repeat' split) <;> omega
  · rw [← rx, ← ry]
    obtain ⟨-, a1, a2, a3, -⟩ := gx
    obtain ⟨-, b1, b2, b3, -⟩ := gy
    unfold rkP
    (repeat' split) <;> omega
  · rw [← rx, ← ry]
    obtain ⟨-, a1, a2, a3, -⟩ := gx
    obtain ⟨-, b1, b2, b3, -⟩ := gy
    unfold rkP
    (repeat' split) <;> omega
/-- a queue under another rank, that agrees on what is in it -/
theorem PQ.rk {qv s : Int} {S : Int → Prop} {rk rk' : Int → Int} (h : PQ E w qv co s S rk) (hr : ∀ r, S r → rk' r = rk r) : PQ E w qv co s S rk' := by
  refine ⟨h.1, h.2.1, h.2.2.1, fun i i1 i2 => ?_, h.2.2.2.2⟩
  have h1 := h.2.2.2.1 i i1 i2
  have hs := h.1.2.2.2.2
  rw [hr _ ((h.2.2.1.2 _).mpr ⟨(i - 1) / 2, by omega, by omega, rfl⟩), hr _ ((h.2.2.1.2 _).mpr ⟨i, by omega, i2, rfl⟩)]
  exact h1
/-- a queue that nobody touched -/
theorem PQ.gr {P : Int → Int → Prop} {w' : Wd} {qv s : Int} {S : Int → Prop} {rk : Int → Int} (h : PQ E w qv co s S rk) (hG : Gr P w w') (h1 : ∀ i, ¬ P qv i) (h2 : ∀ i, ¬ P (rdw w qv 0) i) : PQ E w' qv co s S rk ∧ rdw w' qv 0 = rdw w qv 0 := by
  obtain ⟨⟨q1, q2, q3, q4, q5⟩, ⟨a1, a2, a3, a4, a5⟩, hP, hH, hN⟩ := h
  have hk : kdw w qv ≠ 0 := by omega
  have hka : kdw w (rdw w qv 0) ≠ 0 := by omega
  have e0 : rdw w' qv 0 = rdw w qv 0 := hG.rd hk (h1 0)
  have eA : ∀ i, rdw w' (rdw w qv 0) i = rdw w (rdw w qv 0) i := fun i => hG.rd hka (h2 i)
  have eL : lnw w' (rdw w qv 0) = lnw w (rdw w qv 0) := hG.ln hka
  refine ⟨⟨⟨q1, (hG.kd hk).trans q2, (hG.rd hk (h1 1)).trans q3, (hG.rd hk (h1 2)).trans q4, q5⟩, ?_, ?_, ?_, ?_⟩, e0⟩
  · rw [e0, hG.kd hka, eL]; exact ⟨a1, a2, a3, a4, a5⟩
  · rw [e0]; exact hP.cg (fun i _ _ => eA i)
  · rw [e0]
    intro i i1 i2
    show rk (rdw w' (rdw w qv 0) ((i - 1) / 2)) ≤ rk (rdw w' (rdw w qv 0) i)
    rw [eA, eA]; exact hH i i1 i2
  · rw [e0]
    intro i i0 i1
    rw [eL] at i1
    rw [eA]; exact hN i i0 i1
end K1S
