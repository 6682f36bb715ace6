/-! THE COMPONENT MADE (by gen/spec_s17.py) -/
set_option maxRecDepth 100000
set_option maxHeartbeats 8000000
/-- k cells are made -/
def INX (E : Ev) (xo b : Int) (w0 : Wd) (k : Int) (F : Int → Int) (u : Wd) : Prop :=
  (szw u = b + k ∧ (eB E : Int) ≤ xo ∧ xo < b ∧ kdw u xo = 1) ∧ (∀ f, rdw u xo f = F f) ∧
  (∀ j : Int, 0 ≤ j → j < k → kdw u (b + j) = xK b j ∧ ((j ≤ 14 ∨ (18 ≤ j ∧ j ≤ 20) ∨ 24 ≤ j) → lnw u (b + j) = xL j)) ∧
  (∀ i : Int, 0 ≤ i → i < 7 → (1 ≤ k → rdw u (b + 0) i = b + 1 + i) ∧ (25 ≤ k → rdw u (b + 24) i = b + 25 + i)) ∧
  (∀ q : Int, (q = 15 ∨ q = 21) → (q < k → rdw u (b + q) 1 = 0) ∧ (q + 2 < k → rdw u (b + q) 0 = b + (q + 2) ∧ rdw u (b + q) 2 = b + (q + 1) ∧ lnw u (b + (q + 2)) = 11 ∧ ∀ i : Int, 0 ≤ i → i < 11 → rdw u (b + (q + 2)) i = -1)) ∧
  (∀ a, a < b → kdw u a = kdw w0 a ∧ lnw u a = lnw w0 a ∧ (a ≠ xo → ∀ i, rdw u a i = rdw w0 a i))
section S17S
variable {X : Cx} {bc bs pc : Nat} {lv : List (Nat × Int)} {st : List Value} {E : Ev} {w w0 u u' : Wd} {r c n m sn sm l i j k v z xo b x q T : Int} {h sh : Int → Int → Int} {F : Int → Int} {e : En}
theorem INX.al (H : INX E xo b w0 k F u) (hk : 0 ≤ k ∧ k < 32) (hs : k ≠ 0 ∧ k ≠ 24 ∧ k ≠ 17 ∧ k ≠ 23) {c : Nat} {N : Int} {g : Int → Int} (hc : xK b k = c) (hN : (k ≤ 14 ∨ (18 ≤ k ∧ k ≤ 20) ∨ 24 ≤ k) → N = xL k) (hg : (k = 15 ∨ k = 21) → g 1 = 0) (K : ∀ u', INX E xo b w0 (k + 1) F u' → GG X bc bs u' pc lv st) : GG X bc bs (alw u c N g) pc lv st := by
  obtain ⟨⟨h1, h2, h3, h4⟩, hF, hj, hr, hq, ho⟩ := H
  have ne : ∀ y, y ≠ b + k → y ≠ szw u := fun y hy => by omega
  refine K _ ⟨⟨by show szw u + 1 = b + (k + 1); omega, h2, h3, by rw [kd_al, if_neg (ne _ (by omega))]; exact h4⟩, fun f => by rw [rd_al, if_neg (ne _ (by omega))]; exact hF f, fun j j0 j1 => ?_, fun i i0 i1 => ⟨fun _ => by rw [rd_al, if_neg (ne _ (by omega))]; exact (hr i i0 i1).1 (by omega), fun z => by rw [rd_al, if_neg (ne _ (by omega))]; exact (hr i i0 i1).2 (by omega)⟩, fun q hq' => ⟨fun z => ?_, fun z => ?_⟩, fun a a1 => ?_⟩
  · by_cases e : j = k
    · rw [kd_al, ln_al, if_pos (by omega), if_pos (by omega), e]
      exact ⟨hc.symm, hN⟩
    · rw [kd_al, ln_al, if_neg (ne _ (by omega)), if_neg (ne _ (by omega))]
      exact hj j j0 (by omega)
  · by_cases e : q = k
    · rw [rd_al, if_pos (by omega)]; exact hg (by omega)
    · rw [rd_al, if_neg (ne _ (by omega))]; exact (hq q hq').1 (by omega)
  · have t := (hq q hq').2 (by omega)
    rw [rd_al, rd_al, ln_al, if_neg (ne _ (by omega)), if_neg (ne _ (by omega)), if_neg (ne _ (by omega))]
    exact ⟨t.1, t.2.1, t.2.2.1, fun i i0 i1 => by rw [rd_al, if_neg (ne _ (by omega))]; exact t.2.2.2 i i0 i1⟩
  · rw [kd_al, ln_al, if_neg (ne _ (by omega)), if_neg (ne _ (by omega))]
    exact ⟨(ho a a1).1, (ho a a1).2.1, fun a2 i => by rw [rd_al, if_neg (ne _ (by omega))]; exact (ho a a1).2.2 a2 i⟩
theorem INX.ml (H : INX E xo b w0 k F u) (hk : k = 0 ∨ k = 24) (hb : 0 ≤ b) (K : ∀ u', INX E xo b w0 (k + 8) F u' → GG X bc bs u' pc lv st) : GG X bc bs (mlw u) pc lv st := by
  obtain ⟨⟨h1, h2, h3, h4⟩, hF, hj, hr, hq, ho⟩ := H
  have rl : ∀ y i, y < b + k → rdw (mlw u) y i = rdw u y i := fun y i hy => by rw [rd_ml, if_neg (by omega), if_neg (by omega)]
  have kl : ∀ y, y < b + k → kdw (mlw u) y = kdw u y := fun y hy => by rw [kd_ml, if_neg (by omega), if_neg (by omega)]
  have ll : ∀ y, y < b + k → lnw (mlw u) y = lnw u y := fun y hy => by rw [ln_ml, if_neg (by omega)]
  refine K _ ⟨⟨by rw [sz_ml]; omega, h2, h3, by rw [kl _ (by omega)]; exact h4⟩, fun f => by rw [rl _ _ (by omega)]; exact hF f, fun j j0 j1 => ?_, fun i i0 i1 => ⟨fun _ => ?_, fun z => ?_⟩, fun q hq' => ⟨fun z => ?_, fun z => ?_⟩, fun a a1 => ?_⟩
  · by_cases e : j < k
    · rw [kl _ (by omega), ll _ (by omega)]; exact hj j j0 e
    · refine ⟨?_, fun _ => ?_⟩
      · rw [kd_ml]
        unfold xK qk pk
        (repeat' split) <;> omega
      · rw [ln_ml, if_pos (by omega)]
        unfold xL
        rw [if_neg (by omega)]
  · by_cases e : k = 0
    · rw [rd_ml, if_pos (by omega)]; omega
    · rw [rl _ _ (by omega)]; exact (hr i i0 i1).1 (by omega)
  · by_cases e : k = 24
    · rw [rd_ml, if_pos (by omega)]; omega
    · omega
  · rw [rl _ _ (by omega)]; exact (hq q hq').1 (by omega)
  · have t := (hq q hq').2 (by omega)
    rw [rl _ _ (by omega), rl _ _ (by omega), ll _ (by omega)]
    exact ⟨t.1, t.2.1, t.2.2.1, fun i i0 i1 => by rw [rl _ _ (by omega)]; exact t.2.2.2 i i0 i1⟩
  · rw [kl _ (by omega), ll _ (by omega)]
    exact ⟨(ho a a1).1, (ho a a1).2.1, fun a2 i => by rw [rl _ _ (by omega)]; exact (ho a a1).2.2 a2 i⟩
theorem INX.pf (H : INX E xo b w0 k F u) (K : ∀ u', INX E xo b w0 k (fun f => if f = i then v else F f) u' → GG X bc bs u' pc lv st) : GG X bc bs (upw u xo i v) pc lv st := by
  obtain ⟨⟨h1, h2, h3, h4⟩, hF, hj, hr, hq, ho⟩ := H
  have rn : ∀ y f, y ≠ xo → rdw (upw u xo i v) y f = rdw u y f := fun y f hy => rd_up_ne (by omega)
  have hx : ∀ y : Int, 0 ≤ y → b + y ≠ xo := fun y hy => by omega
  refine K _ ⟨⟨h1, h2, h3, h4⟩, fun f => ?_, hj, fun t t0 t1 => ⟨fun z => by rw [rn _ _ (hx 0 (by omega))]; exact (hr t t0 t1).1 z, fun z => by rw [rn _ _ (hx 24 (by omega))]; exact (hr t t0 t1).2 z⟩, fun q hq' => ⟨fun z => by rw [rn _ _ (hx q (by omega))]; exact (hq q hq').1 z, fun z => ?_⟩, fun a a1 => ⟨(ho a a1).1, (ho a a1).2.1, fun a2 t => by rw [rn _ _ a2]; exact (ho a a1).2.2 a2 t⟩⟩
  · show _ = if f = i then v else F f
    by_cases e : f = i
    · rw [rd_up_eq ⟨rfl, e⟩, if_pos e]
    · rw [rd_up_ne (by omega), if_neg e]; exact hF f
  · have t := (hq q hq').2 z
    rw [rn _ _ (hx q (by omega)), rn _ _ (hx q (by omega))]
    exact ⟨t.1, t.2.1, t.2.2.1, fun y y0 y1 => by rw [rn _ _ (hx _ (by omega))]; exact t.2.2.2 y y0 y1⟩
/-- a queue is made ready -/
theorem INX.pq (H : INX E xo b w0 k F u) (hb : 0 ≤ b) (hk : q = 15 ∨ q = 21) (hkq : k = q + 2) (K : ∀ u', INX E xo b w0 (k + 1) F u' → GG X bc bs u' pc lv st) : GG X bc bs (upw (upw (alw u (60 + (b + q).toNat) 11 (fun _ => -1)) (b + q) 0 (szw u)) (b + q) 2 (b + (q + 1))) pc lv st := by
  obtain ⟨⟨h1, h2, h3, h4⟩, hF, hj, hr, hq, ho⟩ := H
  have kk : ∀ y, y ≠ b + k → kdw (upw (upw (alw u (60 + (b + q).toNat) 11 (fun _ => -1)) (b + q) 0 (szw u)) (b + q) 2 (b + (q + 1))) y = kdw u y := fun y hy => by rw [kd_up, kd_up, kd_al, if_neg (by omega)]
  have ll : ∀ y, y ≠ b + k → lnw (upw (upw (alw u (60 + (b + q).toNat) 11 (fun _ => -1)) (b + q) 0 (szw u)) (b + q) 2 (b + (q + 1))) y = lnw u y := fun y hy => by show lnw (alw u (60 + (b + q).toNat) 11 (fun _ => -1)) y = _; rw [ln_al, if_neg (by omega)]
  have rr : ∀ y i, y ≠ b + k → y ≠ b + q → rdw (upw (upw (alw u (60 + (b + q).toNat) 11 (fun _ => -1)) (b + q) 0 (szw u)) (b + q) 2 (b + (q + 1))) y i = rdw u y i := fun y i hy hy2 => by rw [rd_up_ne (by omega), rd_up_ne (by omega), rd_al, if_neg (by omega)]
  refine K _ ⟨⟨by show szw u + 1 = b + (k + 1); omega, h2, h3, by rw [kk _ (by omega)]; exact h4⟩, fun f => by rw [rr _ _ (by omega) (by omega)]; exact hF f, fun j j0 j1 => ?_, fun i i0 i1 => ⟨fun _ => by rw [rr _ _ (by omega) (by omega)]; exact (hr i i0 i1).1 (by omega), fun z => by omega⟩, fun q' hq' => ⟨fun z => ?_, fun z => ?_⟩, fun a a1 => ⟨by rw [kk _ (by omega)]; exact (ho a a1).1, by rw [ll _ (by omega)]; exact (ho a a1).2.1, fun a2 i => by rw [rr _ _ (by omega) (by omega)]; exact (ho a a1).2.2 a2 i⟩⟩
  · by_cases e : j = k
    · refine ⟨?_, fun z => by omega⟩
      rw [kd_up, kd_up, kd_al, if_pos (by omega), e]
      unfold xK qk pk
      rcases hk with y | y
      · rw [y] at hkq ⊢; rw [if_pos (by omega)]
      · rw [y] at hkq ⊢; rw [if_neg (by omega), if_pos (by omega)]
    · rw [kk _ (by omega), ll _ (by omega)]
      exact hj j j0 (by omega)
  · by_cases e : q' = q
    · rw [e, rd_up_ne (by omega), rd_up_ne (by omega), rd_al, if_neg (by omega)]
      exact (hq q hk).1 (by omega)
    · rw [rr _ _ (by omega) (by omega)]
      exact (hq q' hq').1 (by omega)
  · by_cases e : q' = q
    · rw [e]
      refine ⟨by rw [rd_up_ne (by omega), rd_up_eq ⟨rfl, rfl⟩]; omega, rd_up_eq ⟨rfl, rfl⟩, by show lnw (alw u (60 + (b + q).toNat) 11 (fun _ => -1)) (b + (q + 2)) = 11; rw [ln_al, if_pos (by omega)], fun i i0 i1 => by rw [rd_up_ne (by omega), rd_up_ne (by omega), rd_al, if_pos (by omega)]⟩
    · have t := (hq q' hq').2 (by omega)
      rw [rr _ _ (by omega) (by omega), rr _ _ (by omega) (by omega), ll _ (by omega)]
      exact ⟨t.1, t.2.1, t.2.2.1, fun i i0 i1 => by rw [rr _ _ (by omega) (by omega)]; exact t.2.2.2 i i0 i1⟩
theorem INX.pqs (H : INX E xo b w0 32 F u) (hq : q = 15 ∨ q = 21) (rk : Int → Int) : PQ E u (b + q) (b + (q + 1)) 0 (fun _ => False) rk ∧ lnw u (rdw u (b + q) 0) = 11 := by
  obtain ⟨⟨h1, h2, h3, h4⟩, hF, hj, hr, hq', ho⟩ := H
  obtain ⟨t1, t2, t3, t4⟩ := (hq' q hq).2 (by omega)
  have k1 := (hj q (by omega) (by omega)).1
  have k2 := (hj (q + 2) (by omega) (by omega)).1
  refine ⟨⟨⟨by omega, ?_, (hq' q hq).1 (by omega), t2, Int.le_refl _⟩, ⟨by omega, ?_, by rw [t1, t3]; omega, by rw [t1, t3]; omega, by rw [t1, t3]; omega⟩, PMo.zero, HPo.zero (by omega), fun i i0 i1 => ?_⟩, by rw [t1]; exact t3⟩
  · rw [k1]; unfold xK; (repeat' split) <;> omega
  · rw [t1, k2]
    unfold xK qk pk
    rcases hq with y | y
    · rw [y, if_pos (by omega)]
    · rw [y, if_neg (by omega), if_pos (by omega)]
  · rw [t1, t3] at i1
    rw [t1]; exact t4 i i0 i1
end S17S
