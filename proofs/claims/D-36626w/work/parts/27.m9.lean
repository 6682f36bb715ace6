/-! MODEL: what rests on a look (by gen/spec_m9.py) -/
set_option maxRecDepth 100000
set_option maxHeartbeats 4000000
theorem lkF_min {C : Int → Int → Int} {l : List (List Nat)} (h : ∀ σ ∈ l, 0 ≤ ps C 0 σ ∧ ps C 0 σ ≤ 7000) : ∀ k, k ≤ l.length → (k = 0 ∧ (lkF C (l.take k)).1 = 1000000) ∨ ((lkF C (l.take k)).2.2.2.2.2 ∈ l.take k ∧ ps C 0 (lkF C (l.take k)).2.2.2.2.2 = (lkF C (l.take k)).1 ∧ ∀ τ ∈ l.take k, (lkF C (l.take k)).1 ≤ ps C 0 τ) := by
  intro k
  induction k with
  | zero => intro _; left; exact ⟨rfl, by simp [lkF, lk0]⟩
  | succ k ih =>
    intro hk
    right
    have h2 : l[k]? = some l[k] := List.getElem?_eq_getElem (by omega)
    have h3 := h _ (List.mem_of_getElem? h2)
    rw [take_snoc h2, lkF_snoc]
    unfold stp
    simp only []
    by_cases hc : ps C 0 l[k] < (lkF C (l.take k)).1
    · rw [if_pos hc, if_pos hc]
      refine ⟨List.mem_append_right _ (List.mem_singleton.mpr rfl), rfl, fun τ ht => ?_⟩
      rw [List.mem_append] at ht
      rcases ht with ht | ht
      · rcases ih (by omega) with ⟨rfl, _⟩ | ⟨_, _, hm⟩
        · simp at ht
        · have := hm τ ht; omega
      · simp at ht; rw [ht]; omega
    · rw [if_neg hc, if_neg hc]
      rcases ih (by omega) with ⟨rfl, e⟩ | ⟨h4, h5, hm⟩
      · omega
      · refine ⟨by rw [List.mem_append]; exact Or.inl h4, h5, fun τ ht => ?_⟩
        rw [List.mem_append] at ht
        rcases ht with ht | ht
        · exact hm τ ht
        · simp at ht; rw [ht]; omega
theorem lkF_opt {C : Int → Int → Int} {n : Nat} (h1 : 1 ≤ n) (hn : n < 8) (hC : bC C n) : (lkF C (pmN n)).2.2.2.2.2 ∈ pmN n ∧ ps C 0 (lkF C (pmN n)).2.2.2.2.2 = (lkF C (pmN n)).1 ∧ ∀ τ ∈ pmN n, (lkF C (pmN n)).1 ≤ ps C 0 τ := by
  have h := lkF_min (C := C) (l := pmN n) (fun σ hs => (pm_bnd hn hC σ hs).1) (pmN n).length (Nat.le_refl _)
  rw [List.take_length] at h
  have hf := pm_first n (by omega)
  rcases h with ⟨h, _⟩ | h
  · have : pmN n = [] := List.length_eq_zero_iff.mp h
    rw [this] at hf; simp at hf
  · exact h
theorem lkF_b {C : Int → Int → Int} {n : Nat} (hn : n < 8) (hC : bC C n) : bL 5040 (lkF C (pmN n)) := by
  have h := bL_take (C := C) (pm_bnd hn hC) (pmN n).length (Nat.le_refl _)
  rw [List.take_length] at h
  have h2 := pm_len n (by omega)
  have h3 := fc_le n hn
  exact ⟨h.1, ⟨h.2.1.1, by have := h.2.1.2; omega⟩, h.2.2⟩
theorem lwF_b {C : Int → Int → Int} {n : Nat} (hn : n < 8) (hC : bC C n) (z : Int) : 0 ≤ lwF C (pmN n) z ∧ lwF C (pmN n) z ≤ 1000000 := by
  have h := bW_take (C := C) (fun σ hs => (pm_bnd hn hC σ hs).1) (pmN n).length (Nat.le_refl _) z
  rw [List.take_length] at h
  exact h
/-- the least of the first k, from far -/
def mnF (f : Int → Int) : Nat → Int
  | 0 => 1000000
  | k + 1 => if f k < mnF f k then f k else mnF f k
theorem mnF_s {f : Int → Int} {i : Int} (h : 0 ≤ i) : mnF f (i + 1).toNat = if f i < mnF f i.toNat then f i else mnF f i.toNat := by
  rw [show (i + 1).toNat = i.toNat + 1 by omega]
  show (if f (i.toNat : Int) < mnF f i.toNat then f (i.toNat : Int) else mnF f i.toNat) = _
  rw [Int.toNat_of_nonneg h]
theorem mnF_b {f : Int → Int} {B : Int} (hB : B ≤ 1000000) : ∀ {k : Nat}, (∀ i : Int, 0 ≤ i → i < k → B ≤ f i) → B ≤ mnF f k ∧ mnF f k ≤ 1000000
  | 0, _ => ⟨hB, Int.le_refl _⟩
  | k + 1, h => by
    have h1 := mnF_b hB (k := k) (fun i h0 h1 => h i h0 (by omega))
    have h2 := h k (by omega) (by omega)
    unfold mnF; split <;> omega
theorem mnF_cg {f g : Int → Int} : ∀ {k : Nat}, (∀ i : Int, 0 ≤ i → i < k → f i = g i) → mnF f k = mnF g k
  | 0, _ => rfl
  | k + 1, h => by
    unfold mnF
    rw [mnF_cg (k := k) (fun i h0 h1 => h i h0 (by omega)), h k (by omega) (by omega)]
/-- the least but at one place -/
def woF (f : Int → Int) (c : Int) : Nat → Int
  | 0 => 1000000
  | k + 1 => if (k : Int) ≠ c ∧ f k < woF f c k then f k else woF f c k
theorem woF_s {f : Int → Int} {c i : Int} (h : 0 ≤ i) : woF f c (i + 1).toNat = if i ≠ c ∧ f i < woF f c i.toNat then f i else woF f c i.toNat := by
  rw [show (i + 1).toNat = i.toNat + 1 by omega]
  show (if (i.toNat : Int) ≠ c ∧ f (i.toNat : Int) < woF f c i.toNat then f (i.toNat : Int) else woF f c i.toNat) = _
  rw [Int.toNat_of_nonneg h]
theorem woF_cg {f g : Int → Int} {c : Int} : ∀ {k : Nat}, (∀ i : Int, 0 ≤ i → i < k → f i = g i) → woF f c k = woF g c k
  | 0, _ => rfl
  | k + 1, h => by
    unfold woF
    rw [woF_cg (k := k) (fun i h0 h1 => h i h0 (by omega)), h k (by omega) (by omega)]
theorem woF_b {f : Int → Int} {c : Int} : ∀ {k : Nat}, (∀ i : Int, 0 ≤ i → i < k → 0 ≤ f i) → 0 ≤ woF f c k ∧ woF f c k ≤ 1000000
  | 0, _ => by simp [woF]
  | k + 1, h => by
    have h1 := woF_b (c := c) (k := k) (fun i h0 h1 => h i h0 (by omega))
    have h2 := h k (by omega) (by omega)
    unfold woF; split <;> omega
def PU (n m : Int) (h : Int → Int → Int) (i : Int) : Int := (LK n m h).1 - (LW n m h (7 * i) - tC m h i 0)
def PV (n m : Int) (h : Int → Int → Int) (j : Int) : Int := mnF (fun i => tC m h i j - PU n m h i) n.toNat
theorem LSx.fr {P : Int → Int → Prop} {mo : Int} {p : LKt} {wf : Int → Int} {w w' : Wd} (H : LSx mo p wf w) (hF : Fr P w w') (hn : ∀ a i, P a i → a ≠ mo + 6 ∧ a ≠ mo + 8 ∧ (a ≠ mo ∨ i < 13 ∨ 17 < i)) : LSx mo p wf w' := by
  refine ⟨⟨?_, ?_, ?_, ?_, ?_⟩, H.2.1.fr hF (fun i z => (hn _ _ z).2.1 rfl), fun k k0 k1 => ?_⟩
  · rw [hF.rd _ _ (fun z => by have := hn _ _ z; omega)]; exact H.1.1
  · rw [hF.rd _ _ (fun z => by have := hn _ _ z; omega)]; exact H.1.2.1
  · rw [hF.rd _ _ (fun z => by have := hn _ _ z; omega)]; exact H.1.2.2.1
  · rw [hF.rd _ _ (fun z => by have := hn _ _ z; omega)]; exact H.1.2.2.2.1
  · rw [hF.rd _ _ (fun z => by have := hn _ _ z; omega)]; exact H.1.2.2.2.2
  · rw [hF.rd _ _ (fun z => (hn _ _ z).1 rfl)]; exact H.2.2 k k0 k1
def zU (mo a _i : Int) : Prop := a = mo + 10 ∨ a = mo + 11
section M9
variable {E : Ev} {mo n m sn sm : Int} {h sh : Int → Int → Int} {e : En} {w : Wd}
theorem MM.cB2 (hM : MM E mo n m h sn sm sh e w) : bC (tC m h) (n.toNat : Nat) := by
  have := hM.1.b
  rw [Int.toNat_of_nonneg (by omega)]; exact hM.cB
theorem MM.kb (hM : MM E mo n m h sn sm sh e w) : bL 5040 (LK n m h) := by
  have := hM.1.b
  exact lkF_b (by omega) hM.cB2
theorem MM.wb (hM : MM E mo n m h sn sm sh e w) (z : Int) : 0 ≤ LW n m h z ∧ LW n m h z ≤ 1000000 := by
  have := hM.1.b
  exact lwF_b (by omega) hM.cB2 z
theorem MM.opt (hM : MM E mo n m h sn sm sh e w) : (LK n m h).2.2.2.2.2 ∈ pmN n.toNat ∧ ps (tC m h) 0 (LK n m h).2.2.2.2.2 = (LK n m h).1 ∧ ∀ τ ∈ pmN n.toNat, (LK n m h).1 ≤ ps (tC m h) 0 τ := by
  have := hM.1.b
  exact lkF_opt (by omega) (by omega) hM.cB2
theorem MM.fl (hM : MM E mo n m h sn sm sh e w) : (LK n m h).2.2.2.2.2.length = n.toNat := (pmN_mem.mp hM.opt.1).1
theorem MM.ub (hM : MM E mo n m h sn sm sh e w) (i : Int) (hi : 0 ≤ i ∧ i < n) : -1000000 ≤ PU n m h i ∧ PU n m h i ≤ 1001000 := by
  have h1 := hM.kb.1
  have h2 := hM.wb (7 * i)
  have h3 := hM.1.b
  have h4 := hM.cB i 0 hi.1 hi.2 (by omega) (by omega)
  unfold PU; omega
theorem MM.vb (hM : MM E mo n m h sn sm sh e w) (j : Int) (hj : 0 ≤ j ∧ j < n) : -1001000 ≤ PV n m h j ∧ PV n m h j ≤ 1000000 := mnF_b (by omega) (fun i i0 i1 => by
  have h3 := hM.1.b
  have h1 := hM.ub i (by omega)
  have h4 := hM.cB i j i0 (by omega) hj.1 hj.2
  omega)
theorem c_m_takeM (hM : MM E mo n m h sn sm sh e w) : Call E mX4_take 1 0 0 [vR mo] w (qU (fun w' => MM E mo n m h sn sm sh e w' ∧ Fr (zT mo) w w' ∧ ∀ i j : Int, 0 ≤ i → i < n → 0 ≤ j → j < n → cw w' mo i j = tC m h i j)) := by
  have hb := hM.1.b
  refine (c_m_take hM.1 hM.fb).imp (fun o v w1 hq => ?_)
  obtain ⟨rfl, rfl, hI, hF, hc⟩ := hq
  exact ⟨rfl, rfl, hM.fr hF (fun a i z => by unfold zT at z; unfold zZ; omega), hF, fun i j i0 i1 j0 j1 => (hc i j i0 i1 j0 j1).trans (hM.2.2.1.mc hM.1.vm (by omega) (by omega))⟩
theorem c_m_look2M {z : Int} {C : Int → Int → Int} (hM : MM E mo n m h sn sm sh e w) (hz : 1 ≤ z ∧ z ≤ 7) (hC : bC C z) (hc : ∀ i j : Int, 0 ≤ i → i < z → 0 ≤ j → j < z → cw w mo i j = C i j) : Call E mX4_look_2 9 0 0 [vR mo, vI z] w (qU (fun w' => MM E mo n m h sn sm sh e w' ∧ Fr (zQ mo) w w' ∧ LSx mo (lkF C (pmN z.toNat)) (lwF C (pmN z.toNat)) w')) := by
  have hb := hM.1.b
  have hlk := c_m_look2 (sz := z.toNat) hM.1 (by omega) (by omega) (fun i j a b c d => by rw [hc i j a (by omega) c (by omega)]; exact hC i j a (by omega) c (by omega))
  rw [Int.toNat_of_nonneg (by omega)] at hlk
  refine hlk.imp (fun o v w1 hq => ?_)
  obtain ⟨rfl, rfl, hI, hF, hS⟩ := hq
  have hp := pm_cg (C := cw w mo) (C' := C) (n := z.toNat) (fun i j i0 i1 j0 j1 => hc i j i0 (by omega) j0 (by omega))
  rw [lkF_cg hp, lwF_cg (fun σ hs => (hp σ hs).1)] at hS
  exact ⟨rfl, rfl, hM.fr hF (fun a i z => by unfold zQ at z; unfold zZ; omega), hF, hS⟩
theorem c_m_minimum (hM : MM E mo n m h sn sm sh e w) : Call E mX4_minimum 11 0 0 [vR mo] w (qI (fun r w' => r = (LK n m h).1 ∧ MM E mo n m h sn sm sh e w' ∧ Fr (zB mo) w w')) := by
  refine call_of (av := [(1, mo)]) (by decide +kernel) rfl (Nat.le_of_ble_eq_true rfl) ?_
  intro X hX hF hname
  show GG X 0 0 w 0 [(1, mo)] []
  have hb := hM.1.b
  have hsb := hM.2.1.2
  have hW : Fr (zB mo) w w := Fr.rf
  refine g_aload_n (pc' := 1) hX dX4_minimum_0 rfl rfl ?_
  refine gV0U0 (pc' := 4) hX dX4_minimum_1 ml_X4_114 gc_X4 hM.1.h0 hM.1.hk (c_m_lookM hM) (Nat.le_of_ble_eq_true rfl) (by decide) rfl (fun w1 q1 => ?_)
  obtain ⟨hM, hW1, hC, hS⟩ := q1
  have hW := hW.tr (hW1.wk (fun a i z => show zB mo a i by unfold zL at z; unfold zB; omega))
  refine g_aload_n (pc' := 5) hX dX4_minimum_4 rfl rfl ?_
  refine gf_X4_80 (pc' := 8) hX dX4_minimum_5 hM.1.h0 hM.1.hk rfl ?_
  rw [hS.1.1]
  exact g_retI hX hF dX4_minimum_8 ⟨rfl, hM, hW⟩

theorem c_m_optimalCount (hM : MM E mo n m h sn sm sh e w) : Call E mX4_optimalCount 11 0 0 [vR mo] w (qI (fun r w' => r = (LK n m h).2.1 ∧ MM E mo n m h sn sm sh e w' ∧ Fr (zB mo) w w')) := by
  refine call_of (av := [(1, mo)]) (by decide +kernel) rfl (Nat.le_of_ble_eq_true rfl) ?_
  intro X hX hF hname
  show GG X 0 0 w 0 [(1, mo)] []
  have hb := hM.1.b
  have hsb := hM.2.1.2
  have hW : Fr (zB mo) w w := Fr.rf
  refine g_aload_n (pc' := 1) hX dX4_optimalCount_0 rfl rfl ?_
  refine gV0U0 (pc' := 4) hX dX4_optimalCount_1 ml_X4_114 gc_X4 hM.1.h0 hM.1.hk (c_m_lookM hM) (Nat.le_of_ble_eq_true rfl) (by decide) rfl (fun w1 q1 => ?_)
  obtain ⟨hM, hW1, hC, hS⟩ := q1
  have hW := hW.tr (hW1.wk (fun a i z => show zB mo a i by unfold zL at z; unfold zB; omega))
  refine g_aload_n (pc' := 5) hX dX4_optimalCount_4 rfl rfl ?_
  refine gf_X4_83 (pc' := 8) hX dX4_optimalCount_5 hM.1.h0 hM.1.hk rfl ?_
  rw [hS.1.2.1]
  exact g_retI hX hF dX4_optimalCount_8 ⟨rfl, hM, hW⟩

theorem c_m_maximum (hM : MM E mo n m h sn sm sh e w) : Call E mX4_maximum 11 0 0 [vR mo] w (qI (fun r w' => r = (LK n m h).2.2.2.1 ∧ MM E mo n m h sn sm sh e w' ∧ Fr (zB mo) w w')) := by
  refine call_of (av := [(1, mo)]) (by decide +kernel) rfl (Nat.le_of_ble_eq_true rfl) ?_
  intro X hX hF hname
  show GG X 0 0 w 0 [(1, mo)] []
  have hb := hM.1.b
  have hsb := hM.2.1.2
  have hW : Fr (zB mo) w w := Fr.rf
  refine g_aload_n (pc' := 1) hX dX4_maximum_0 rfl rfl ?_
  refine gV0U0 (pc' := 4) hX dX4_maximum_1 ml_X4_114 gc_X4 hM.1.h0 hM.1.hk (c_m_lookM hM) (Nat.le_of_ble_eq_true rfl) (by decide) rfl (fun w1 q1 => ?_)
  obtain ⟨hM, hW1, hC, hS⟩ := q1
  have hW := hW.tr (hW1.wk (fun a i z => show zB mo a i by unfold zL at z; unfold zB; omega))
  refine g_aload_n (pc' := 5) hX dX4_maximum_4 rfl rfl ?_
  refine gf_X4_89 (pc' := 8) hX dX4_maximum_5 hM.1.h0 hM.1.hk rfl ?_
  rw [hS.1.2.2.2.1]
  exact g_retI hX hF dX4_maximum_8 ⟨rfl, hM, hW⟩

theorem c_m_bottleneck (hM : MM E mo n m h sn sm sh e w) : Call E mX4_bottleneck 11 0 0 [vR mo] w (qI (fun r w' => r = (LK n m h).2.2.2.2.1 ∧ MM E mo n m h sn sm sh e w' ∧ Fr (zB mo) w w')) := by
  refine call_of (av := [(1, mo)]) (by decide +kernel) rfl (Nat.le_of_ble_eq_true rfl) ?_
  intro X hX hF hname
  show GG X 0 0 w 0 [(1, mo)] []
  have hb := hM.1.b
  have hsb := hM.2.1.2
  have hW : Fr (zB mo) w w := Fr.rf
  refine g_aload_n (pc' := 1) hX dX4_bottleneck_0 rfl rfl ?_
  refine gV0U0 (pc' := 4) hX dX4_bottleneck_1 ml_X4_114 gc_X4 hM.1.h0 hM.1.hk (c_m_lookM hM) (Nat.le_of_ble_eq_true rfl) (by decide) rfl (fun w1 q1 => ?_)
  obtain ⟨hM, hW1, hC, hS⟩ := q1
  have hW := hW.tr (hW1.wk (fun a i z => show zB mo a i by unfold zL at z; unfold zB; omega))
  refine g_aload_n (pc' := 5) hX dX4_bottleneck_4 rfl rfl ?_
  refine gf_X4_92 (pc' := 8) hX dX4_bottleneck_5 hM.1.h0 hM.1.hk rfl ?_
  rw [hS.1.2.2.2.2]
  exact g_retI hX hF dX4_bottleneck_8 ⟨rfl, hM, hW⟩

theorem c_m_secondBest (hM : MM E mo n m h sn sm sh e w) : Call E mX4_secondBest 11 0 0 [vR mo] w (qI (fun r w' => r = (if n = 1 then -1 else (LK n m h).2.2.1) ∧ MM E mo n m h sn sm sh e w' ∧ Fr (zB mo) w w')) := by
  refine call_of (av := [(1, mo)]) (by decide +kernel) rfl (Nat.le_of_ble_eq_true rfl) ?_
  intro X hX hF hname
  show GG X 0 0 w 0 [(1, mo)] []
  have hb := hM.1.b
  have hsb := hM.2.1.2
  have hW : Fr (zB mo) w w := Fr.rf
  refine g_aload_n (pc' := 1) hX dX4_secondBest_0 rfl rfl ?_
  refine gV0U0 (pc' := 4) hX dX4_secondBest_1 ml_X4_114 gc_X4 hM.1.h0 hM.1.hk (c_m_lookM hM) (Nat.le_of_ble_eq_true rfl) (by decide) rfl (fun w1 q1 => ?_)
  obtain ⟨hM, hW1, hC, hS⟩ := q1
  have hW := hW.tr (hW1.wk (fun a i z => show zB mo a i by unfold zL at z; unfold zB; omega))
  refine g_aload_n (pc' := 5) hX dX4_secondBest_4 rfl rfl ?_
  refine gf_X4_7 (pc' := 8) hX dX4_secondBest_5 hM.1.h0 hM.1.hk rfl ?_
  rw [hM.1.vn]
  refine g_iconst (pc' := 9) hX dX4_secondBest_8 rfl ?_
  refine g_icmp_ne (pc' := 12) (tgt := 16) hX dX4_secondBest_9 (by decide) rfl (by omega) (by omega) (fun h9 => ?_) (fun h9 => ?_)
  · skip
    refine g_aload_n (pc' := 17) hX dX4_secondBest_16 rfl rfl ?_
    refine gf_X4_86 (pc' := 20) hX dX4_secondBest_17 hM.1.h0 hM.1.hk rfl ?_
    rw [hS.1.2.2.1]
    exact g_retI hX hF dX4_secondBest_20 ⟨by first | rw [if_pos (by omega)] | rw [if_neg (by omega)], hM, hW⟩
  · skip
    refine g_iconst (pc' := 13) hX dX4_secondBest_12 rfl ?_
    refine g_goto (tgt := 20) hX dX4_secondBest_13 (by decide) ?_
    exact g_retI hX hF dX4_secondBest_20 ⟨by first | rw [if_pos (by omega)] | rw [if_neg (by omega)], hM, hW⟩

theorem c_mo_assigned {r : Int} (hM : MM E mo n m h sn sm sh e w) (br : -2147483648 ≤ r ∧ r ≤ 2147483647)  : Call E mX4_assigned 11 0 0 [vR mo, vI r] w (qI (mP mo w (if 0 ≤ r ∧ r ≤ n - 1 then 0 else 1) (((LK n m h).2.2.2.2.2.getD r.toNat 0 : Nat)) (fun w' => MM E mo n m h sn sm sh e w') (fun w' => MM E mo n m h sn sm sh e w'))) := by
  refine call_of (av := [(1, mo), (0, r)]) (by decide +kernel) rfl (Nat.le_of_ble_eq_true rfl) ?_
  intro X hX hF hname
  show GG X 0 0 w 0 [(1, mo), (0, r)] []
  have hb := hM.1.b
  have hsb := hM.2.1.2
  skip
  refine g_aload_n (pc' := 1) hX dX4_assigned_0 rfl rfl ?_
  refine g_aload_n (pc' := 2) hX dX4_assigned_1 rfl rfl ?_
  refine g_iload_n (pc' := 3) hX dX4_assigned_2 rfl rfl ?_
  refine gV1E0 (pc' := 6) hX dX4_assigned_3 ml_X4_122 gc_X4 hM.1.h0 hM.1.hk (c_m_isRow hM.1 (by omega)) (Nat.le_of_ble_eq_true rfl) (by decide) rfl ?_
  refine g_if_eq (pc' := 9) (tgt := 13) hX dX4_assigned_6 (by decide) rfl (by omega) (fun h6 => ?_) (fun h6 => ?_)
  · skip
    refine g_iconst (pc' := 14) hX dX4_assigned_13 rfl ?_
    refine gV1I0 (pc' := 17) hX dX4_assigned_14 ml_X4_118 gc_X4 hM.1.h0 hM.1.hk (c_m_wrong hM (by omega)) (Nat.le_of_ble_eq_true rfl) (by decide) rfl (fun r14 w14 q14 => ?_)
    obtain ⟨hM, hWA, hR, h4, hr14⟩ := q14
    have hI := hM.1
    have hW : Fr (zB mo) w14 w14 := Fr.rf
    have e0 : r14 = 1 := by omega
    subst e0
    clear hr14
    skip
    refine g_if_eq (pc' := 20) (tgt := 22) hX dX4_assigned_17 (by decide) rfl (by omega) (fun h17 => absurd h17 (by omega)) (fun h17 => ?_)
    refine g_iconst (pc' := 21) hX dX4_assigned_20 rfl ?_
    exact g_retI hX hF dX4_assigned_21 (mP.bad hWA h4 (by omega) (by omega) hM)
  · skip
    refine g_iconst (pc' := 10) hX dX4_assigned_9 rfl ?_
    refine g_goto (tgt := 14) hX dX4_assigned_10 (by decide) ?_
    refine gV1I0 (pc' := 17) hX dX4_assigned_14 ml_X4_118 gc_X4 hM.1.h0 hM.1.hk (c_m_wrong hM (by omega)) (Nat.le_of_ble_eq_true rfl) (by decide) rfl (fun r14 w14 q14 => ?_)
    obtain ⟨hM, hWA, hR, h4, hr14⟩ := q14
    have hI := hM.1
    have hW : Fr (zB mo) w14 w14 := Fr.rf
    have e0 : r14 = 0 := by omega
    subst e0
    clear hr14
    skip
    refine g_if_eq (pc' := 20) (tgt := 22) hX dX4_assigned_17 (by decide) rfl (by omega) (fun h17 => ?_) (fun h17 => absurd h17 (by omega))
    refine g_aload_n (pc' := 23) hX dX4_assigned_22 rfl rfl ?_
    refine gV0U0 (pc' := 26) hX dX4_assigned_23 ml_X4_114 gc_X4 hM.1.h0 hM.1.hk (c_m_lookM hM) (Nat.le_of_ble_eq_true rfl) (by decide) rfl (fun w23 q23 => ?_)
    obtain ⟨hM, hW1, hC, hS⟩ := q23
    have hW := hW.tr (hW1.wk (fun a i z => show zB mo a i by unfold zL at z; unfold zB; omega))
    refine g_aload_n (pc' := 27) hX dX4_assigned_26 rfl rfl ?_
    refine gf_X4_45 (pc' := 30) hX dX4_assigned_27 hM.1.h0 hM.1.hk rfl ?_
    rw [hM.1.f 12 (by decide) (show moF 12 = 8 by decide)]
    refine g_iload_n (pc' := 31) hX dX4_assigned_30 rfl rfl ?_
    have hfl := hM.fl
    refine g_ialdL (pc' := 32) hX dX4_assigned_31 (by have := hM.1.h0; omega) (hM.1.k 8 (by decide) (show moK 8 = 50 by decide)) (hM.1.l 8 (by decide) (show moN 8 = 7 by decide)) (by omega) rfl ?_
    rw [hS.2.1 r (by omega) (by omega)]
    exact g_retI hX hF dX4_assigned_32 (mP.okB hWA hW h4 (by omega) (hM) (rfl))

theorem c_mo_minimumWith {r c : Int} (hM : MM E mo n m h sn sm sh e w) (br : -2147483648 ≤ r ∧ r ≤ 2147483647) (bc : -2147483648 ≤ c ∧ c ≤ 2147483647)  : Call E mX4_minimumWith 11 0 0 [vR mo, vI r, vI c] w (qI (mP mo w (if 0 ≤ r ∧ r ≤ n - 1 ∧ 0 ≤ c ∧ c ≤ n - 1 then 0 else 1) (LW n m h (7 * r + c)) (fun w' => MM E mo n m h sn sm sh e w') (fun w' => MM E mo n m h sn sm sh e w'))) := by
  refine call_of (av := [(1, mo), (0, r), (0, c)]) (by decide +kernel) rfl (Nat.le_of_ble_eq_true rfl) ?_
  intro X hX hF hname
  show GG X 0 0 w 0 [(1, mo), (0, r), (0, c)] []
  have hb := hM.1.b
  have hsb := hM.2.1.2
  skip
  refine g_aload_n (pc' := 1) hX dX4_minimumWith_0 rfl rfl ?_
  refine g_aload_n (pc' := 2) hX dX4_minimumWith_1 rfl rfl ?_
  refine g_iload_n (pc' := 3) hX dX4_minimumWith_2 rfl rfl ?_
  refine gV1E0 (pc' := 6) hX dX4_minimumWith_3 ml_X4_122 gc_X4 hM.1.h0 hM.1.hk (c_m_isRow hM.1 (by omega)) (Nat.le_of_ble_eq_true rfl) (by decide) rfl ?_
  refine g_if_eq (pc' := 9) (tgt := 17) hX dX4_minimumWith_6 (by decide) rfl (by omega) (fun h6 => ?_) (fun h6 => ?_)
  · skip
    refine g_iconst (pc' := 18) hX dX4_minimumWith_17 rfl ?_
    refine g_goto (tgt := 22) hX dX4_minimumWith_18 (by decide) ?_
    refine gV1I0 (pc' := 25) hX dX4_minimumWith_22 ml_X4_118 gc_X4 hM.1.h0 hM.1.hk (c_m_wrong hM (by omega)) (Nat.le_of_ble_eq_true rfl) (by decide) rfl (fun r22 w22 q22 => ?_)
    obtain ⟨hM, hWA, hR, h4, hr22⟩ := q22
    have hI := hM.1
    have hW : Fr (zB mo) w22 w22 := Fr.rf
    have e0 : r22 = 1 := by omega
    subst e0
    clear hr22
    skip
    refine g_if_eq (pc' := 28) (tgt := 30) hX dX4_minimumWith_25 (by decide) rfl (by omega) (fun h25 => absurd h25 (by omega)) (fun h25 => ?_)
    refine g_iconst (pc' := 29) hX dX4_minimumWith_28 rfl ?_
    exact g_retI hX hF dX4_minimumWith_29 (mP.bad hWA h4 (by omega) (by omega) hM)
  · skip
    refine g_aload_n (pc' := 10) hX dX4_minimumWith_9 rfl rfl ?_
    refine g_iload_n (pc' := 11) hX dX4_minimumWith_10 rfl rfl ?_
    refine gV1E0 (pc' := 14) hX dX4_minimumWith_11 ml_X4_122 gc_X4 hM.1.h0 hM.1.hk (c_m_isRow hM.1 (by omega)) (Nat.le_of_ble_eq_true rfl) (by decide) rfl ?_
    refine g_if_ne (pc' := 17) (tgt := 21) hX dX4_minimumWith_14 (by decide) rfl (by omega) (fun h14 => ?_) (fun h14 => ?_)
    · skip
      refine g_iconst (pc' := 22) hX dX4_minimumWith_21 rfl ?_
      refine gV1I0 (pc' := 25) hX dX4_minimumWith_22 ml_X4_118 gc_X4 hM.1.h0 hM.1.hk (c_m_wrong hM (by omega)) (Nat.le_of_ble_eq_true rfl) (by decide) rfl (fun r22 w22 q22 => ?_)
      obtain ⟨hM, hWA, hR, h4, hr22⟩ := q22
      have hI := hM.1
      have hW : Fr (zB mo) w22 w22 := Fr.rf
      have e0 : r22 = 0 := by omega
      subst e0
      clear hr22
      skip
      refine g_if_eq (pc' := 28) (tgt := 30) hX dX4_minimumWith_25 (by decide) rfl (by omega) (fun h25 => ?_) (fun h25 => absurd h25 (by omega))
      refine g_aload_n (pc' := 31) hX dX4_minimumWith_30 rfl rfl ?_
      refine gV0U0 (pc' := 34) hX dX4_minimumWith_31 ml_X4_114 gc_X4 hM.1.h0 hM.1.hk (c_m_lookM hM) (Nat.le_of_ble_eq_true rfl) (by decide) rfl (fun w31 q31 => ?_)
      obtain ⟨hM, hW1, hC, hS⟩ := q31
      have hW := hW.tr (hW1.wk (fun a i z => show zB mo a i by unfold zL at z; unfold zB; omega))
      refine g_aload_n (pc' := 35) hX dX4_minimumWith_34 rfl rfl ?_
      refine gf_X4_39 (pc' := 38) hX dX4_minimumWith_35 hM.1.h0 hM.1.hk rfl ?_
      rw [hM.1.f 10 (by decide) (show moF 10 = 6 by decide)]
      refine g_bipush (pc' := 40) hX dX4_minimumWith_38 rfl rfl ?_
      refine g_iload_n (pc' := 41) hX dX4_minimumWith_40 rfl rfl ?_
      refine g_imul (pc' := 42) hX dX4_minimumWith_41 rfl ?_
      refine g_iload_n (pc' := 43) hX dX4_minimumWith_42 rfl rfl ?_
      refine g_iadd (pc' := 44) hX dX4_minimumWith_43 rfl ?_
      refine g_ialdL (pc' := 45) hX dX4_minimumWith_44 (by have := hM.1.h0; omega) (hM.1.k 6 (by decide) (show moK 6 = 50 by decide)) (hM.1.l 6 (by decide) (show moN 6 = 49 by decide)) (by omega) rfl ?_
      rw [hS.2.2 (7 * r + c) (by omega) (by omega)]
      exact g_retI hX hF dX4_minimumWith_45 (mP.okB hWA hW h4 (by omega) (hM) (rfl))
    · skip
      refine g_iconst (pc' := 18) hX dX4_minimumWith_17 rfl ?_
      refine g_goto (tgt := 22) hX dX4_minimumWith_18 (by decide) ?_
      refine gV1I0 (pc' := 25) hX dX4_minimumWith_22 ml_X4_118 gc_X4 hM.1.h0 hM.1.hk (c_m_wrong hM (by omega)) (Nat.le_of_ble_eq_true rfl) (by decide) rfl (fun r22 w22 q22 => ?_)
      obtain ⟨hM, hWA, hR, h4, hr22⟩ := q22
      have hI := hM.1
      have hW : Fr (zB mo) w22 w22 := Fr.rf
      have e0 : r22 = 1 := by omega
      subst e0
      clear hr22
      skip
      refine g_if_eq (pc' := 28) (tgt := 30) hX dX4_minimumWith_25 (by decide) rfl (by omega) (fun h25 => absurd h25 (by omega)) (fun h25 => ?_)
      refine g_iconst (pc' := 29) hX dX4_minimumWith_28 rfl ?_
      exact g_retI hX hF dX4_minimumWith_29 (mP.bad hWA h4 (by omega) (by omega) hM)

theorem c_m_without {r c : Int} {wf : Int → Int} (hM : MM E mo n m h sn sm sh e w) (hr : 0 ≤ r ∧ r < n) (hc : 0 ≤ c ∧ c < n) (hw : ∀ k : Int, 0 ≤ k → k < 49 → rdw w (mo + 6) k = wf k) (hwb : ∀ k, 0 ≤ wf k ∧ wf k ≤ 1000000) : Call E mX4_without 0 0 0 [vR mo, vI r, vI c] w (qE (woF (fun k => wf (7 * r + k)) c n.toNat) w) := by
  refine call_of (av := [(1, mo), (0, r), (0, c)]) (by decide +kernel) rfl (Nat.le_of_ble_eq_true rfl) ?_
  intro X hX hF hname
  show GG X 0 0 w 0 [(1, mo), (0, r), (0, c), (9, 0), (9, 0)] []
  have hb := hM.1.b
  have hsb := hM.2.1.2
  skip
  refine g_ldc (pc' := 2) (n := 1000000) hX dX4_without_0 q1735 rfl rfl ?_
  refine g_istore_n_3 (pc' := 3) hX dX4_without_2 (by decide) rfl rfl ?_
  refine g_iconst (pc' := 4) hX dX4_without_3 rfl ?_
  refine g_istore_4 (pc' := 6) hX dX4_without_4 (by decide) rfl rfl ?_
  have loop : ∀ (f : Nat) (i : Int), 0 ≤ i → i ≤ n → n < i + f → GG X 0 0 w 6 [(1, mo), (0, r), (0, c), (0, woF (fun k => wf (7 * r + k)) c i.toNat), (0, i)] [] := by
    intro f
    induction f with
    | zero => intro i h0 h1 hf; exact absurd hf (by omega)
    | succ f ih =>
      intro i h0 h1 hf
      have hb1 := woF_b (f := fun k => wf (7 * r + k)) (c := c) (k := i.toNat) (fun j _ _ => (hwb _).1)
      have hb2 := hwb (7 * r + i)
      refine g_iload (pc' := 8) hX dX4_without_6 rfl rfl ?_
      refine g_aload_n (pc' := 9) hX dX4_without_8 rfl rfl ?_
      refine gf_X4_7 (pc' := 12) hX dX4_without_9 hM.1.h0 hM.1.hk rfl ?_
      rw [hM.1.vn]
      refine g_icmp_ge (pc' := 15) (tgt := 60) hX dX4_without_12 (by decide) rfl (by omega) (by omega) (fun h12 => ?_) (fun h12 => ?_)
      · skip
        refine g_iload_n (pc' := 61) hX dX4_without_60 rfl rfl ?_
        exact g_retE hX hF dX4_without_61 (by rw [show i = n by omega]) rfl
      · skip
        refine g_iload (pc' := 17) hX dX4_without_15 rfl rfl ?_
        refine g_iload_n (pc' := 18) hX dX4_without_17 rfl rfl ?_
        refine g_icmp_eq (pc' := 21) (tgt := 52) hX dX4_without_18 (by decide) rfl (by omega) (by omega) (fun h18 => ?_) (fun h18 => ?_)
        · skip
          refine g_iload_n (pc' := 53) hX dX4_without_52 rfl rfl ?_
          refine g_istore_n_3 (pc' := 54) hX dX4_without_53 (by decide) rfl rfl ?_
          refine g_iinc_4 (pc' := 57) hX dX4_without_54 (by decide) rfl rfl ?_
          refine g_goto (tgt := 6) hX dX4_without_57 (by decide) ?_
          have ex := ih (i + 1) (by omega) (by omega) (by omega)
          rw [woF_s h0] at ex
          first
            | (rw [if_pos ⟨by omega, by show wf (7 * r + i) < _; omega⟩] at ex; exact ex)
            | (rw [if_neg (fun z => absurd z.1 (by omega))] at ex; exact ex)
            | (rw [if_neg (fun z => absurd (show wf (7 * r + i) < _ from z.2) (by omega))] at ex; exact ex)
        · skip
          refine g_aload_n (pc' := 22) hX dX4_without_21 rfl rfl ?_
          refine gf_X4_39 (pc' := 25) hX dX4_without_22 hM.1.h0 hM.1.hk rfl ?_
          rw [hM.1.f 10 (by decide) (show moF 10 = 6 by decide)]
          refine g_bipush (pc' := 27) hX dX4_without_25 rfl rfl ?_
          refine g_iload_n (pc' := 28) hX dX4_without_27 rfl rfl ?_
          refine g_imul (pc' := 29) hX dX4_without_28 rfl ?_
          refine g_iload (pc' := 31) hX dX4_without_29 rfl rfl ?_
          refine g_iadd (pc' := 32) hX dX4_without_31 rfl ?_
          refine g_ialdL (pc' := 33) hX dX4_without_32 (by have := hM.1.h0; omega) (hM.1.k 6 (by decide) (show moK 6 = 50 by decide)) (hM.1.l 6 (by decide) (show moN 6 = 49 by decide)) (by omega) rfl ?_
          rw [hw (7 * r + i) (by omega) (by omega)]
          refine g_iload_n (pc' := 34) hX dX4_without_33 rfl rfl ?_
          refine g_icmp_ge (pc' := 37) (tgt := 52) hX dX4_without_34 (by decide) rfl (by omega) (by omega) (fun h34 => ?_) (fun h34 => ?_)
          · skip
            refine g_iload_n (pc' := 53) hX dX4_without_52 rfl rfl ?_
            refine g_istore_n_3 (pc' := 54) hX dX4_without_53 (by decide) rfl rfl ?_
            refine g_iinc_4 (pc' := 57) hX dX4_without_54 (by decide) rfl rfl ?_
            refine g_goto (tgt := 6) hX dX4_without_57 (by decide) ?_
            have ex := ih (i + 1) (by omega) (by omega) (by omega)
            rw [woF_s h0] at ex
            first
              | (rw [if_pos ⟨by omega, by show wf (7 * r + i) < _; omega⟩] at ex; exact ex)
              | (rw [if_neg (fun z => absurd z.1 (by omega))] at ex; exact ex)
              | (rw [if_neg (fun z => absurd (show wf (7 * r + i) < _ from z.2) (by omega))] at ex; exact ex)
          · skip
            refine g_aload_n (pc' := 38) hX dX4_without_37 rfl rfl ?_
            refine gf_X4_39 (pc' := 41) hX dX4_without_38 hM.1.h0 hM.1.hk rfl ?_
            rw [hM.1.f 10 (by decide) (show moF 10 = 6 by decide)]
            refine g_bipush (pc' := 43) hX dX4_without_41 rfl rfl ?_
            refine g_iload_n (pc' := 44) hX dX4_without_43 rfl rfl ?_
            refine g_imul (pc' := 45) hX dX4_without_44 rfl ?_
            refine g_iload (pc' := 47) hX dX4_without_45 rfl rfl ?_
            refine g_iadd (pc' := 48) hX dX4_without_47 rfl ?_
            refine g_ialdL (pc' := 49) hX dX4_without_48 (by have := hM.1.h0; omega) (hM.1.k 6 (by decide) (show moK 6 = 50 by decide)) (hM.1.l 6 (by decide) (show moN 6 = 49 by decide)) (by omega) rfl ?_
            rw [hw (7 * r + i) (by omega) (by omega)]
            refine g_goto (tgt := 53) hX dX4_without_49 (by decide) ?_
            refine g_istore_n_3 (pc' := 54) hX dX4_without_53 (by decide) rfl rfl ?_
            refine g_iinc_4 (pc' := 57) hX dX4_without_54 (by decide) rfl rfl ?_
            refine g_goto (tgt := 6) hX dX4_without_57 (by decide) ?_
            have ex := ih (i + 1) (by omega) (by omega) (by omega)
            rw [woF_s h0] at ex
            first
              | (rw [if_pos ⟨by omega, by show wf (7 * r + i) < _; omega⟩] at ex; exact ex)
              | (rw [if_neg (fun z => absurd z.1 (by omega))] at ex; exact ex)
              | (rw [if_neg (fun z => absurd (show wf (7 * r + i) < _ from z.2) (by omega))] at ex; exact ex)
  exact loop 8 0 (by omega) (by omega) (by omega)

theorem c_mo_minimumWithout {r c : Int} (hM : MM E mo n m h sn sm sh e w) (br : -2147483648 ≤ r ∧ r ≤ 2147483647) (bc : -2147483648 ≤ c ∧ c ≤ 2147483647)  : Call E mX4_minimumWithout 11 0 0 [vR mo, vI r, vI c] w (qI (mP mo w (if 0 ≤ r ∧ r ≤ n - 1 ∧ 0 ≤ c ∧ c ≤ n - 1 then 0 else 1) (if n = 1 then -1 else woF (fun k => LW n m h (7 * r + k)) c n.toNat) (fun w' => MM E mo n m h sn sm sh e w') (fun w' => MM E mo n m h sn sm sh e w'))) := by
  refine call_of (av := [(1, mo), (0, r), (0, c)]) (by decide +kernel) rfl (Nat.le_of_ble_eq_true rfl) ?_
  intro X hX hF hname
  show GG X 0 0 w 0 [(1, mo), (0, r), (0, c)] []
  have hb := hM.1.b
  have hsb := hM.2.1.2
  skip
  refine g_aload_n (pc' := 1) hX dX4_minimumWithout_0 rfl rfl ?_
  refine g_aload_n (pc' := 2) hX dX4_minimumWithout_1 rfl rfl ?_
  refine g_iload_n (pc' := 3) hX dX4_minimumWithout_2 rfl rfl ?_
  refine gV1E0 (pc' := 6) hX dX4_minimumWithout_3 ml_X4_122 gc_X4 hM.1.h0 hM.1.hk (c_m_isRow hM.1 (by omega)) (Nat.le_of_ble_eq_true rfl) (by decide) rfl ?_
  refine g_if_eq (pc' := 9) (tgt := 17) hX dX4_minimumWithout_6 (by decide) rfl (by omega) (fun h6 => ?_) (fun h6 => ?_)
  · skip
    refine g_iconst (pc' := 18) hX dX4_minimumWithout_17 rfl ?_
    refine g_goto (tgt := 22) hX dX4_minimumWithout_18 (by decide) ?_
    refine gV1I0 (pc' := 25) hX dX4_minimumWithout_22 ml_X4_118 gc_X4 hM.1.h0 hM.1.hk (c_m_wrong hM (by omega)) (Nat.le_of_ble_eq_true rfl) (by decide) rfl (fun r22 w22 q22 => ?_)
    obtain ⟨hM, hWA, hR, h4, hr22⟩ := q22
    have hI := hM.1
    have hW : Fr (zB mo) w22 w22 := Fr.rf
    have e0 : r22 = 1 := by omega
    subst e0
    clear hr22
    skip
    refine g_if_eq (pc' := 28) (tgt := 30) hX dX4_minimumWithout_25 (by decide) rfl (by omega) (fun h25 => absurd h25 (by omega)) (fun h25 => ?_)
    refine g_iconst (pc' := 29) hX dX4_minimumWithout_28 rfl ?_
    exact g_retI hX hF dX4_minimumWithout_29 (mP.bad hWA h4 (by omega) (by omega) hM)
  · skip
    refine g_aload_n (pc' := 10) hX dX4_minimumWithout_9 rfl rfl ?_
    refine g_iload_n (pc' := 11) hX dX4_minimumWithout_10 rfl rfl ?_
    refine gV1E0 (pc' := 14) hX dX4_minimumWithout_11 ml_X4_122 gc_X4 hM.1.h0 hM.1.hk (c_m_isRow hM.1 (by omega)) (Nat.le_of_ble_eq_true rfl) (by decide) rfl ?_
    refine g_if_ne (pc' := 17) (tgt := 21) hX dX4_minimumWithout_14 (by decide) rfl (by omega) (fun h14 => ?_) (fun h14 => ?_)
    · skip
      refine g_iconst (pc' := 22) hX dX4_minimumWithout_21 rfl ?_
      refine gV1I0 (pc' := 25) hX dX4_minimumWithout_22 ml_X4_118 gc_X4 hM.1.h0 hM.1.hk (c_m_wrong hM (by omega)) (Nat.le_of_ble_eq_true rfl) (by decide) rfl (fun r22 w22 q22 => ?_)
      obtain ⟨hM, hWA, hR, h4, hr22⟩ := q22
      have hI := hM.1
      have hW : Fr (zB mo) w22 w22 := Fr.rf
      have e0 : r22 = 0 := by omega
      subst e0
      clear hr22
      skip
      refine g_if_eq (pc' := 28) (tgt := 30) hX dX4_minimumWithout_25 (by decide) rfl (by omega) (fun h25 => ?_) (fun h25 => absurd h25 (by omega))
      refine g_aload_n (pc' := 31) hX dX4_minimumWithout_30 rfl rfl ?_
      refine gV0U0 (pc' := 34) hX dX4_minimumWithout_31 ml_X4_114 gc_X4 hM.1.h0 hM.1.hk (c_m_lookM hM) (Nat.le_of_ble_eq_true rfl) (by decide) rfl (fun w31 q31 => ?_)
      obtain ⟨hM, hW1, hC, hS⟩ := q31
      have hW := hW.tr (hW1.wk (fun a i z => show zB mo a i by unfold zL at z; unfold zB; omega))
      refine g_aload_n (pc' := 35) hX dX4_minimumWithout_34 rfl rfl ?_
      refine gf_X4_7 (pc' := 38) hX dX4_minimumWithout_35 hM.1.h0 hM.1.hk rfl ?_
      rw [hM.1.vn]
      refine g_iconst (pc' := 39) hX dX4_minimumWithout_38 rfl ?_
      refine g_icmp_ne (pc' := 42) (tgt := 46) hX dX4_minimumWithout_39 (by decide) rfl (by omega) (by omega) (fun h39 => ?_) (fun h39 => ?_)
      · skip
        refine g_aload_n (pc' := 47) hX dX4_minimumWithout_46 rfl rfl ?_
        refine g_iload_n (pc' := 48) hX dX4_minimumWithout_47 rfl rfl ?_
        refine g_iload_n (pc' := 49) hX dX4_minimumWithout_48 rfl rfl ?_
        refine gV2E0 (pc' := 52) hX dX4_minimumWithout_49 ml_X4_165 gc_X4 hM.1.h0 hM.1.hk (c_m_without hM (by omega) (by omega) hS.2.2 hM.wb) (Nat.le_of_ble_eq_true rfl) (by decide) rfl ?_
        exact g_retI hX hF dX4_minimumWithout_52 (mP.okB hWA hW h4 (by omega) (hM) (by first | rw [if_pos (by omega)] | rw [if_neg (by omega)]))
      · skip
        refine g_iconst (pc' := 43) hX dX4_minimumWithout_42 rfl ?_
        refine g_goto (tgt := 52) hX dX4_minimumWithout_43 (by decide) ?_
        exact g_retI hX hF dX4_minimumWithout_52 (mP.okB hWA hW h4 (by omega) (hM) (by first | rw [if_pos (by omega)] | rw [if_neg (by omega)]))
    · skip
      refine g_iconst (pc' := 18) hX dX4_minimumWithout_17 rfl ?_
      refine g_goto (tgt := 22) hX dX4_minimumWithout_18 (by decide) ?_
      refine gV1I0 (pc' := 25) hX dX4_minimumWithout_22 ml_X4_118 gc_X4 hM.1.h0 hM.1.hk (c_m_wrong hM (by omega)) (Nat.le_of_ble_eq_true rfl) (by decide) rfl (fun r22 w22 q22 => ?_)
      obtain ⟨hM, hWA, hR, h4, hr22⟩ := q22
      have hI := hM.1
      have hW : Fr (zB mo) w22 w22 := Fr.rf
      have e0 : r22 = 1 := by omega
      subst e0
      clear hr22
      skip
      refine g_if_eq (pc' := 28) (tgt := 30) hX dX4_minimumWithout_25 (by decide) rfl (by omega) (fun h25 => absurd h25 (by omega)) (fun h25 => ?_)
      refine g_iconst (pc' := 29) hX dX4_minimumWithout_28 rfl ?_
      exact g_retI hX hF dX4_minimumWithout_29 (mP.bad hWA h4 (by omega) (by omega) hM)

theorem c_mo_fits {a : Int} (hM : MM E mo n m h sn sm sh e w) (ba : -2147483648 ≤ a ∧ a ≤ 2147483647)  : Call E mX4_fits 11 0 0 [vR mo, vI a] w (qI (mP mo w (if 0 ≤ a ∧ a ≤ 1000 then 0 else 1) (if (LK n m h).2.2.2.2.1 ≤ a then 1 else 0) (fun w' => MM E mo n m h sn sm sh e w') (fun w' => MM E mo n m h sn sm sh e w'))) := by
  refine call_of (av := [(1, mo), (0, a)]) (by decide +kernel) rfl (Nat.le_of_ble_eq_true rfl) ?_
  intro X hX hF hname
  show GG X 0 0 w 0 [(1, mo), (0, a)] []
  have hb := hM.1.b
  have hsb := hM.2.1.2
  skip
  refine g_aload_n (pc' := 1) hX dX4_fits_0 rfl rfl ?_
  refine g_iload_n (pc' := 2) hX dX4_fits_1 rfl rfl ?_
  refine g_i2l (pc' := 3) hX dX4_fits_2 (by omega) rfl ?_
  refine g_lconst (pc' := 4) (v := 0) hX dX4_fits_3 rfl rfl ?_
  refine g_ldc2 (pc' := 7) (n := 1000) hX dX4_fits_4 q1823 rfl rfl ?_
  refine gS3E0 (pc' := 10) hX dX4_fits_7 ml_X4_63 (c_m_isIn (by omega) (by omega) (by omega)) (Nat.le_of_ble_eq_true rfl) (by decide) rfl ?_
  refine g_if_eq (pc' := 13) (tgt := 17) hX dX4_fits_10 (by decide) rfl (by omega) (fun h10 => ?_) (fun h10 => ?_)
  · skip
    refine g_iconst (pc' := 18) hX dX4_fits_17 rfl ?_
    refine gV1I0 (pc' := 21) hX dX4_fits_18 ml_X4_118 gc_X4 hM.1.h0 hM.1.hk (c_m_wrong hM (by omega)) (Nat.le_of_ble_eq_true rfl) (by decide) rfl (fun r18 w18 q18 => ?_)
    obtain ⟨hM, hWA, hR, h4, hr18⟩ := q18
    have hI := hM.1
    have hW : Fr (zB mo) w18 w18 := Fr.rf
    have e0 : r18 = 1 := by omega
    subst e0
    clear hr18
    skip
    refine g_if_eq (pc' := 24) (tgt := 26) hX dX4_fits_21 (by decide) rfl (by omega) (fun h21 => absurd h21 (by omega)) (fun h21 => ?_)
    refine g_iconst (pc' := 25) hX dX4_fits_24 rfl ?_
    exact g_retZ hX hF dX4_fits_25 (by omega) (mP.bad hWA h4 (by omega) (by omega) hM)
  · skip
    refine g_iconst (pc' := 14) hX dX4_fits_13 rfl ?_
    refine g_goto (tgt := 18) hX dX4_fits_14 (by decide) ?_
    refine gV1I0 (pc' := 21) hX dX4_fits_18 ml_X4_118 gc_X4 hM.1.h0 hM.1.hk (c_m_wrong hM (by omega)) (Nat.le_of_ble_eq_true rfl) (by decide) rfl (fun r18 w18 q18 => ?_)
    obtain ⟨hM, hWA, hR, h4, hr18⟩ := q18
    have hI := hM.1
    have hW : Fr (zB mo) w18 w18 := Fr.rf
    have e0 : r18 = 0 := by omega
    subst e0
    clear hr18
    skip
    refine g_if_eq (pc' := 24) (tgt := 26) hX dX4_fits_21 (by decide) rfl (by omega) (fun h21 => ?_) (fun h21 => absurd h21 (by omega))
    refine g_aload_n (pc' := 27) hX dX4_fits_26 rfl rfl ?_
    refine gV0U0 (pc' := 30) hX dX4_fits_27 ml_X4_114 gc_X4 hM.1.h0 hM.1.hk (c_m_lookM hM) (Nat.le_of_ble_eq_true rfl) (by decide) rfl (fun w27 q27 => ?_)
    obtain ⟨hM, hW1, hC, hS⟩ := q27
    have hW := hW.tr (hW1.wk (fun a i z => show zB mo a i by unfold zL at z; unfold zB; omega))
    refine g_aload_n (pc' := 31) hX dX4_fits_30 rfl rfl ?_
    refine gf_X4_92 (pc' := 34) hX dX4_fits_31 hM.1.h0 hM.1.hk rfl ?_
    rw [hS.1.2.2.2.2]
    have hkb := hM.kb.2.2.2.2
    refine g_iload_n (pc' := 35) hX dX4_fits_34 rfl rfl ?_
    refine g_icmp_gt (pc' := 38) (tgt := 42) hX dX4_fits_35 (by decide) rfl (by omega) (by omega) (fun h35 => ?_) (fun h35 => ?_)
    · skip
      refine g_iconst (pc' := 43) hX dX4_fits_42 rfl ?_
      exact g_retZ hX hF dX4_fits_43 (by omega) (mP.okB hWA hW h4 (by omega) (hM) (by first | rw [if_pos (by omega)] | rw [if_neg (by omega)]))
    · skip
      refine g_iconst (pc' := 39) hX dX4_fits_38 rfl ?_
      refine g_goto (tgt := 43) hX dX4_fits_39 (by decide) ?_
      exact g_retZ hX hF dX4_fits_43 (by omega) (mP.okB hWA hW h4 (by omega) (hM) (by first | rw [if_pos (by omega)] | rw [if_neg (by omega)]))

theorem c_mo_minimumIfCost {r c v : Int} (hM : MM E mo n m h sn sm sh e w) (br : -2147483648 ≤ r ∧ r ≤ 2147483647) (bc : -2147483648 ≤ c ∧ c ≤ 2147483647) (bv : -2147483648 ≤ v ∧ v ≤ 2147483647)  : Call E mX4_minimumIfCost 10 0 0 [vR mo, vI r, vI c, vI v] w (qI (mP mo w (if ¬ (0 ≤ r ∧ r ≤ n - 1 ∧ 0 ≤ c ∧ c ≤ m - 1) then 1 else if ¬ (0 ≤ v ∧ v ≤ 99 ∨ v = 1000) then 2 else 0) ((lkF (fun i j => if i = r ∧ j = c then v else tC m h i j) (pmN n.toNat)).1) (fun w' => MM E mo n m h sn sm sh e w') (fun w' => MM E mo n m h sn sm sh e w'))) := by
  refine call_of (av := [(1, mo), (0, r), (0, c), (0, v)]) (by decide +kernel) rfl (Nat.le_of_ble_eq_true rfl) ?_
  intro X hX hF hname
  show GG X 0 0 w 0 [(1, mo), (0, r), (0, c), (0, v)] []
  have hb := hM.1.b
  have hsb := hM.2.1.2
  skip
  refine g_aload_n (pc' := 1) hX dX4_minimumIfCost_0 rfl rfl ?_
  refine g_aload_n (pc' := 2) hX dX4_minimumIfCost_1 rfl rfl ?_
  refine g_iload_n (pc' := 3) hX dX4_minimumIfCost_2 rfl rfl ?_
  refine gV1E0 (pc' := 6) hX dX4_minimumIfCost_3 ml_X4_122 gc_X4 hM.1.h0 hM.1.hk (c_m_isRow hM.1 (by omega)) (Nat.le_of_ble_eq_true rfl) (by decide) rfl ?_
  refine g_if_eq (pc' := 9) (tgt := 17) hX dX4_minimumIfCost_6 (by decide) rfl (by omega) (fun h6 => ?_) (fun h6 => ?_)
  · skip
    refine g_iconst (pc' := 18) hX dX4_minimumIfCost_17 rfl ?_
    refine g_goto (tgt := 45) hX dX4_minimumIfCost_18 (by decide) ?_
    refine gV1I0 (pc' := 48) hX dX4_minimumIfCost_45 ml_X4_118 gc_X4 hM.1.h0 hM.1.hk (c_m_wrong hM (by omega)) (Nat.le_of_ble_eq_true rfl) (by decide) rfl (fun r45 w45 q45 => ?_)
    obtain ⟨hM, hWA, hR, h4, hr45⟩ := q45
    have hI := hM.1
    have hW : Fr (zB mo) w45 w45 := Fr.rf
    have e0 : r45 = 1 := by omega
    subst e0
    clear hr45
    skip
    refine g_if_eq (pc' := 51) (tgt := 53) hX dX4_minimumIfCost_48 (by decide) rfl (by omega) (fun h48 => absurd h48 (by omega)) (fun h48 => ?_)
    refine g_iconst (pc' := 52) hX dX4_minimumIfCost_51 rfl ?_
    exact g_retI hX hF dX4_minimumIfCost_52 (mP.bad hWA h4 (by omega) (by omega) hM)
  · skip
    refine g_aload_n (pc' := 10) hX dX4_minimumIfCost_9 rfl rfl ?_
    refine g_iload_n (pc' := 11) hX dX4_minimumIfCost_10 rfl rfl ?_
    refine gV1E0 (pc' := 14) hX dX4_minimumIfCost_11 ml_X4_125 gc_X4 hM.1.h0 hM.1.hk (c_m_isReal hM.1 (by omega)) (Nat.le_of_ble_eq_true rfl) (by decide) rfl ?_
    refine g_if_ne (pc' := 17) (tgt := 21) hX dX4_minimumIfCost_14 (by decide) rfl (by omega) (fun h14 => ?_) (fun h14 => ?_)
    · skip
      refine g_iload_n (pc' := 22) hX dX4_minimumIfCost_21 rfl rfl ?_
      refine g_i2l (pc' := 23) hX dX4_minimumIfCost_22 (by omega) rfl ?_
      refine g_lconst (pc' := 24) (v := 0) hX dX4_minimumIfCost_23 rfl rfl ?_
      refine g_ldc2 (pc' := 27) (n := 99) hX dX4_minimumIfCost_24 q1619 rfl rfl ?_
      refine gS3E0 (pc' := 30) hX dX4_minimumIfCost_27 ml_X4_63 (c_m_isIn (by omega) (by omega) (by omega)) (Nat.le_of_ble_eq_true rfl) (by decide) rfl ?_
      refine g_if_ne (pc' := 33) (tgt := 44) hX dX4_minimumIfCost_30 (by decide) rfl (by omega) (fun h30 => ?_) (fun h30 => ?_)
      · skip
        refine g_iconst (pc' := 45) hX dX4_minimumIfCost_44 rfl ?_
        refine gV1I0 (pc' := 48) hX dX4_minimumIfCost_45 ml_X4_118 gc_X4 hM.1.h0 hM.1.hk (c_m_wrong hM (by omega)) (Nat.le_of_ble_eq_true rfl) (by decide) rfl (fun r45 w45 q45 => ?_)
        obtain ⟨hM, hWA, hR, h4, hr45⟩ := q45
        have hI := hM.1
        have hW : Fr (zB mo) w45 w45 := Fr.rf
        have e0 : r45 = 0 := by omega
        subst e0
        clear hr45
        skip
        refine g_if_eq (pc' := 51) (tgt := 53) hX dX4_minimumIfCost_48 (by decide) rfl (by omega) (fun h48 => ?_) (fun h48 => absurd h48 (by omega))
        refine g_aload_n (pc' := 54) hX dX4_minimumIfCost_53 rfl rfl ?_
        refine gV0U0 (pc' := 57) hX dX4_minimumIfCost_54 ml_X4_108 gc_X4 hM.1.h0 hM.1.hk (c_m_takeM hM) (Nat.le_of_ble_eq_true rfl) (by decide) rfl (fun w54 q54 => ?_)
        obtain ⟨hM, hW1, hC⟩ := q54
        have hW := hW.tr (hW1.wk (fun a i z => show zB mo a i by unfold zT at z; unfold zB; omega))
        refine g_aload_n (pc' := 58) hX dX4_minimumIfCost_57 rfl rfl ?_
        refine gf_X4_36 (pc' := 61) hX dX4_minimumIfCost_58 hM.1.h0 hM.1.hk rfl ?_
        rw [hM.1.f 9 (by decide) (show moF 9 = 5 by decide)]
        refine g_bipush (pc' := 63) hX dX4_minimumIfCost_61 rfl rfl ?_
        refine g_iload_n (pc' := 64) hX dX4_minimumIfCost_63 rfl rfl ?_
        refine g_imul (pc' := 65) hX dX4_minimumIfCost_64 rfl ?_
        refine g_iload_n (pc' := 66) hX dX4_minimumIfCost_65 rfl rfl ?_
        refine g_iadd (pc' := 67) hX dX4_minimumIfCost_66 rfl ?_
        refine g_iload_n (pc' := 68) hX dX4_minimumIfCost_67 rfl rfl ?_
        refine g_iastL (pc' := 69) hX dX4_minimumIfCost_68 (by have := hM.1.hb; omega) (hM.1.k 5 (by decide) (show moK 5 = 50 by decide)) (hM.1.l 5 (by decide) (show moN 5 = 49 by decide)) (by omega) rfl ?_
        refine hM.stZ hW (by unfold zZ; omega) (by unfold zB; omega) (fun hM hW => ?_)
        have hC2 : ∀ i j : Int, 0 ≤ i → i < n → 0 ≤ j → j < n → cw (upw w54 (mo + 5) (7 * r + c) v) mo i j = (fun i j => if i = r ∧ j = c then v else tC m h i j) i j := fun i j i0 i1 j0 j1 => by
          unfold cw
          by_cases he : i = r ∧ j = c
          · rw [rd_up_eq (by omega)]; simp only [if_pos he]
          · rw [rd_up_ne (by omega)]; simp only [if_neg he]; exact hC i j i0 i1 j0 j1
        refine g_aload_n (pc' := 70) hX dX4_minimumIfCost_69 rfl rfl ?_
        refine g_aload_n (pc' := 71) hX dX4_minimumIfCost_70 rfl rfl ?_
        refine gf_X4_7 (pc' := 74) hX dX4_minimumIfCost_71 hM.1.h0 hM.1.hk rfl ?_
        first
          | rw [hM.1.vn]
          | (repeat rw [rd_up_ne (by omega)]); rw [hM.1.vn]
        refine gV1U0 (pc' := 77) hX dX4_minimumIfCost_74 ml_X4_111 gc_X4 hM.1.h0 hM.1.hk (c_m_look2M (C := fun i j => if i = r ∧ j = c then v else tC m h i j) hM (by omega) (fun i j i0 i1 j0 j1 => by have := hM.cB i j i0 i1 j0 j1; simp only []; split <;> omega) hC2) (Nat.le_of_ble_eq_true rfl) (by decide) rfl (fun w74 q74 => ?_)
        obtain ⟨hM, hW1, hS⟩ := q74
        have hW := hW.tr (hW1.wk (fun a i z => show zB mo a i by unfold zQ at z; unfold zB; omega))
        refine g_aload_n (pc' := 78) hX dX4_minimumIfCost_77 rfl rfl ?_
        refine gf_X4_80 (pc' := 81) hX dX4_minimumIfCost_78 hM.1.h0 hM.1.hk rfl ?_
        rw [hS.1.1]
        exact g_retI hX hF dX4_minimumIfCost_81 (mP.okB hWA hW h4 (by omega) (hM) (rfl))
      · skip
        refine g_iload_n (pc' := 34) hX dX4_minimumIfCost_33 rfl rfl ?_
        refine g_sipush (pc' := 37) hX dX4_minimumIfCost_34 rfl rfl ?_
        refine g_icmp_eq (pc' := 40) (tgt := 44) hX dX4_minimumIfCost_37 (by decide) rfl (by omega) (by omega) (fun h37 => ?_) (fun h37 => ?_)
        · skip
          refine g_iconst (pc' := 45) hX dX4_minimumIfCost_44 rfl ?_
          refine gV1I0 (pc' := 48) hX dX4_minimumIfCost_45 ml_X4_118 gc_X4 hM.1.h0 hM.1.hk (c_m_wrong hM (by omega)) (Nat.le_of_ble_eq_true rfl) (by decide) rfl (fun r45 w45 q45 => ?_)
          obtain ⟨hM, hWA, hR, h4, hr45⟩ := q45
          have hI := hM.1
          have hW : Fr (zB mo) w45 w45 := Fr.rf
          have e0 : r45 = 0 := by omega
          subst e0
          clear hr45
          skip
          refine g_if_eq (pc' := 51) (tgt := 53) hX dX4_minimumIfCost_48 (by decide) rfl (by omega) (fun h48 => ?_) (fun h48 => absurd h48 (by omega))
          refine g_aload_n (pc' := 54) hX dX4_minimumIfCost_53 rfl rfl ?_
          refine gV0U0 (pc' := 57) hX dX4_minimumIfCost_54 ml_X4_108 gc_X4 hM.1.h0 hM.1.hk (c_m_takeM hM) (Nat.le_of_ble_eq_true rfl) (by decide) rfl (fun w54 q54 => ?_)
          obtain ⟨hM, hW1, hC⟩ := q54
          have hW := hW.tr (hW1.wk (fun a i z => show zB mo a i by unfold zT at z; unfold zB; omega))
          refine g_aload_n (pc' := 58) hX dX4_minimumIfCost_57 rfl rfl ?_
          refine gf_X4_36 (pc' := 61) hX dX4_minimumIfCost_58 hM.1.h0 hM.1.hk rfl ?_
          rw [hM.1.f 9 (by decide) (show moF 9 = 5 by decide)]
          refine g_bipush (pc' := 63) hX dX4_minimumIfCost_61 rfl rfl ?_
          refine g_iload_n (pc' := 64) hX dX4_minimumIfCost_63 rfl rfl ?_
          refine g_imul (pc' := 65) hX dX4_minimumIfCost_64 rfl ?_
          refine g_iload_n (pc' := 66) hX dX4_minimumIfCost_65 rfl rfl ?_
          refine g_iadd (pc' := 67) hX dX4_minimumIfCost_66 rfl ?_
          refine g_iload_n (pc' := 68) hX dX4_minimumIfCost_67 rfl rfl ?_
          refine g_iastL (pc' := 69) hX dX4_minimumIfCost_68 (by have := hM.1.hb; omega) (hM.1.k 5 (by decide) (show moK 5 = 50 by decide)) (hM.1.l 5 (by decide) (show moN 5 = 49 by decide)) (by omega) rfl ?_
          refine hM.stZ hW (by unfold zZ; omega) (by unfold zB; omega) (fun hM hW => ?_)
          have hC2 : ∀ i j : Int, 0 ≤ i → i < n → 0 ≤ j → j < n → cw (upw w54 (mo + 5) (7 * r + c) v) mo i j = (fun i j => if i = r ∧ j = c then v else tC m h i j) i j := fun i j i0 i1 j0 j1 => by
            unfold cw
            by_cases he : i = r ∧ j = c
            · rw [rd_up_eq (by omega)]; simp only [if_pos he]
            · rw [rd_up_ne (by omega)]; simp only [if_neg he]; exact hC i j i0 i1 j0 j1
          refine g_aload_n (pc' := 70) hX dX4_minimumIfCost_69 rfl rfl ?_
          refine g_aload_n (pc' := 71) hX dX4_minimumIfCost_70 rfl rfl ?_
          refine gf_X4_7 (pc' := 74) hX dX4_minimumIfCost_71 hM.1.h0 hM.1.hk rfl ?_
          first
            | rw [hM.1.vn]
            | (repeat rw [rd_up_ne (by omega)]); rw [hM.1.vn]
          refine gV1U0 (pc' := 77) hX dX4_minimumIfCost_74 ml_X4_111 gc_X4 hM.1.h0 hM.1.hk (c_m_look2M (C := fun i j => if i = r ∧ j = c then v else tC m h i j) hM (by omega) (fun i j i0 i1 j0 j1 => by have := hM.cB i j i0 i1 j0 j1; simp only []; split <;> omega) hC2) (Nat.le_of_ble_eq_true rfl) (by decide) rfl (fun w74 q74 => ?_)
          obtain ⟨hM, hW1, hS⟩ := q74
          have hW := hW.tr (hW1.wk (fun a i z => show zB mo a i by unfold zQ at z; unfold zB; omega))
          refine g_aload_n (pc' := 78) hX dX4_minimumIfCost_77 rfl rfl ?_
          refine gf_X4_80 (pc' := 81) hX dX4_minimumIfCost_78 hM.1.h0 hM.1.hk rfl ?_
          rw [hS.1.1]
          exact g_retI hX hF dX4_minimumIfCost_81 (mP.okB hWA hW h4 (by omega) (hM) (rfl))
        · skip
          refine g_iconst (pc' := 41) hX dX4_minimumIfCost_40 rfl ?_
          refine g_goto (tgt := 45) hX dX4_minimumIfCost_41 (by decide) ?_
          refine gV1I0 (pc' := 48) hX dX4_minimumIfCost_45 ml_X4_118 gc_X4 hM.1.h0 hM.1.hk (c_m_wrong hM (by omega)) (Nat.le_of_ble_eq_true rfl) (by decide) rfl (fun r45 w45 q45 => ?_)
          obtain ⟨hM, hWA, hR, h4, hr45⟩ := q45
          have hI := hM.1
          have hW : Fr (zB mo) w45 w45 := Fr.rf
          have e0 : r45 = 1 := by omega
          subst e0
          clear hr45
          skip
          refine g_if_eq (pc' := 51) (tgt := 53) hX dX4_minimumIfCost_48 (by decide) rfl (by omega) (fun h48 => absurd h48 (by omega)) (fun h48 => ?_)
          refine g_iconst (pc' := 52) hX dX4_minimumIfCost_51 rfl ?_
          exact g_retI hX hF dX4_minimumIfCost_52 (mP.bad hWA h4 (by omega) (by omega) hM)
    · skip
      refine g_iconst (pc' := 18) hX dX4_minimumIfCost_17 rfl ?_
      refine g_goto (tgt := 45) hX dX4_minimumIfCost_18 (by decide) ?_
      refine gV1I0 (pc' := 48) hX dX4_minimumIfCost_45 ml_X4_118 gc_X4 hM.1.h0 hM.1.hk (c_m_wrong hM (by omega)) (Nat.le_of_ble_eq_true rfl) (by decide) rfl (fun r45 w45 q45 => ?_)
      obtain ⟨hM, hWA, hR, h4, hr45⟩ := q45
      have hI := hM.1
      have hW : Fr (zB mo) w45 w45 := Fr.rf
      have e0 : r45 = 1 := by omega
      subst e0
      clear hr45
      skip
      refine g_if_eq (pc' := 51) (tgt := 53) hX dX4_minimumIfCost_48 (by decide) rfl (by omega) (fun h48 => absurd h48 (by omega)) (fun h48 => ?_)
      refine g_iconst (pc' := 52) hX dX4_minimumIfCost_51 rfl ?_
      exact g_retI hX hF dX4_minimumIfCost_52 (mP.bad hWA h4 (by omega) (by omega) hM)

end M9
