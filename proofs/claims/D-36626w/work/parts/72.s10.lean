/-! THE SOLVER'S ANSWERS: the dearest cost that is needed (by gen/spec_s10.py) -/
set_option maxRecDepth 100000
set_option maxHeartbeats 8000000
def SKH (E : Ev) (xo b n m : Int) (h : Int → Int → Int) (sn sm : Int) (sh : Int → Int → Int) (e : En) (L row : Int) (w : Wd) (t : Nat) : Prop :=
  XX E xo b n m h sn sm sh e w ∧ (∀ i j : Int, 0 ≤ i → i < n → 0 ≤ j → j < n → rdw w (b + 1 + i) j = tC m h i j) ∧ (0 ≤ row ∧ row < n) ∧
  (∀ q : Int, 0 ≤ q → q < n → rdw w (b + 14) q = 0 ∨ rdw w (b + 14) q = 1) ∧ (∀ q : Int, 0 ≤ q → q < n → rdw w (b + 10) q = -1 ∨ (0 ≤ rdw w (b + 10) q ∧ rdw w (b + 10) q < n)) ∧
  n - sm' n.toNat (rdw w (b + 14)) ≤ t ∧ KI n (tC m h) L row (rdw w (b + 10)) (rdw w (b + 14))
def SKQ (E : Ev) (xo b n m : Int) (h : Int → Int → Int) (sn sm : Int) (sh : Int → Int → Int) (e : En) (L row : Int) (w : Wd) (r : Int) (w' : Wd) : Prop :=
  SB E xo b n m h sn sm sh e w w' ∧ (∀ k q : Int, k ≠ 10 → k ≠ 14 → rdw w' (b + k) q = rdw w (b + k) q) ∧ (∀ q : Int, 0 ≤ q → q < n → rdw w' (b + 10) q = -1 ∨ (0 ≤ rdw w' (b + 10) q ∧ rdw w' (b + 10) q < n)) ∧
  ((r = 1 ∧ KS n (tC m h) L row (rdw w (b + 10)) (rdw w (b + 14)) (rdw w' (b + 10))) ∨ (r = 0 ∧ rdw w' (b + 10) = rdw w (b + 10) ∧ KC n (tC m h) L row (rdw w (b + 10)) (rdw w (b + 14)) (rdw w' (b + 14)) n))
section S10S
variable {X : Cx} {bc bs pc : Nat} {lv : List (Nat × Int)} {st : List Value} {E : Ev} {w w0 u u' : Wd} {P : Int → Int → Prop} {T r c n m sn sm l i j k v a z xo b it x y sz fd far q row base s L : Int} {h h' sh C C0 R : Int → Int → Int} {f g : Int → Int} {e : En} {S : Int → Prop}
theorem KC.cnt {ro vis cur cur2 : Int → Int} (H : KC n C L row ro vis cur j) (hv : ∀ q : Int, 0 ≤ q → q < n → vis q = 0 ∨ vis q = 1) (hj : (0 ≤ j ∧ j < n) ∧ cur j = 0) (h2 : ∀ q : Int, cur2 q = if q = j then 1 else cur q) : sm' n.toNat vis + 1 ≤ sm' n.toNat cur2 ∧ sm' n.toNat cur2 ≤ n := by
  have h1 : sm' n.toNat vis ≤ sm' n.toNat cur := sm_mono (fun i i0 i1 => by
    have t := H.1 i i0 (by omega)
    rcases hv i i0 (by omega) with z | z
    · omega
    · have := t.2 z; omega)
  have h3 := sm_one (f := cur) (g := cur2) (k := n.toNat) hj.1.1 (by omega) (fun i _ _ hi => by rw [h2 i, if_neg hi])
  have h4 : sm' n.toNat cur2 ≤ sm' n.toNat (fun _ => 1) := sm_mono (fun i i0 i1 => by
    rw [h2 i]
    have t := H.1 i i0 (by omega)
    split <;> omega)
  rw [h2 j, if_pos rfl] at h3
  rw [sm_k] at h4
  omega
theorem c_s_seeks1 {t : Nat} (hL : 0 ≤ L ∧ L ≤ 1000) (IH : ∀ t' : Nat, t' < t → ∀ (w : Wd) (row : Int), SKH E xo b n m h sn sm sh e L row w t' → Call E mX1_seeks t' 0 0 [vR xo, vI row, vI L] w (qI (SKQ E xo b n m h sn sm sh e L row w))) (hS0 : SKH E xo b n m h sn sm sh e L row w t) : Call E mX1_seeks t 0 0 [vR xo, vI row, vI L] w (qI (SKQ E xo b n m h sn sm sh e L row w)) := by
  refine call_of (av := [(1, xo), (0, row), (0, L)]) (by decide +kernel) rfl (Nat.le_of_ble_eq_true rfl) ?_
  intro X hX hF hname
  show GG X 0 0 w 0 [(1, xo), (0, row), (0, L), (9, 0)] []
  obtain ⟨hH, hA, hrow, hvis, hro, ht, hKI⟩ := hS0
  have hC := hH.2.2.1.bCn
  have hn := hH.2.2.1.1.2.1
  have hrn : row ≠ -1 := by omega
  refine g_iconst (pc' := 1) hX dX1_seeks_0 rfl ?_
  refine g_istore_n_3 (pc' := 2) hX dX1_seeks_1 (by decide) rfl rfl ?_
  have loop : ∀ (f : Nat) (j : Int) (u : Wd), 0 ≤ j → j ≤ n → SB E xo b n m h sn sm sh e w u → (∀ k q : Int, k ≠ 10 → k ≠ 14 → rdw u (b + k) q = rdw w (b + k) q) → rdw u (b + 10) = rdw w (b + 10) → KC n (tC m h) L row (rdw w (b + 10)) (rdw w (b + 14)) (rdw u (b + 14)) j → n < j + f → GG X 0 0 u 2 [(1, xo), (0, row), (0, L), (0, j)] [] := by
    intro f
    induction f with
    | zero => intro j u j0 j1 hS hk h10 hK hf; exact absurd hf (by omega)
    | succ f ih =>
      intro j u j0 j1 hS hk h10 hK hf
      have hV := hS.1.1
      refine g_iload_n (pc' := 3) hX dX1_seeks_2 rfl rfl ?_
      refine g_aload_n (pc' := 4) hX dX1_seeks_3 rfl rfl ?_
      refine gf_X1_7 (pc' := 7) hX dX1_seeks_4 hV.h0 hV.hk rfl ?_
      rw [hS.1.2.2.1.1.1.1]
      refine g_icmp_ge (pc' := 10) (tgt := 80) hX dX1_seeks_7 (by decide) rfl (by omega) (by omega) (fun h7 => ?_) (fun h7 => ?_)
      · skip
        refine g_iconst (pc' := 81) hX dX1_seeks_80 rfl ?_
        exact g_retZ hX hF dX1_seeks_81 (Or.inl rfl) ⟨hS, hk, by rw [h10]; exact hro, Or.inr ⟨rfl, h10, by have e := hK; rw [show j = n by omega] at e; exact e⟩⟩
      · skip
        have hvj := (hK.1 j j0 (by omega)).1
        have hCj := hC row j hrow.1 hrow.2 j0 (by omega)
        refine g_aload_n (pc' := 11) hX dX1_seeks_10 rfl rfl ?_
        refine gf_X1_57 (pc' := 14) hX dX1_seeks_11 hV.h0 hV.hk rfl ?_
        rw [hV.f 14 (by decide) (show xF 14 = 14 from rfl)]
        refine g_iload_n (pc' := 15) hX dX1_seeks_14 rfl rfl ?_
        refine g_zaldL (pc' := 16) hX dX1_seeks_15 (by have := hV.b0; omega) (hV.kk 14 (by decide) (show xK b 14 = 51 from rfl)) (hV.ln 14 (by decide) (show xL 14 = 7 from rfl)) (by omega) rfl ?_
        refine g_if_ne (pc' := 19) (tgt := 74) hX dX1_seeks_16 (by decide) rfl (by omega) (fun h16 => ?_) (fun h16 => ?_)
        · skip
          have hsk : rdw u (b + 14) j = 1 ∨ L < tC m h row j := Or.inl (by omega)
          refine g_iinc_3 (pc' := 77) hX dX1_seeks_74 (by decide) rfl rfl ?_
          refine g_goto (tgt := 2) hX dX1_seeks_77 (by decide) ?_
          first
            | exact ih (j + 1) w59 (by omega) (by omega) hS59 hk59 h1059 hK59 (by omega)
            | exact ih (j + 1) u (by omega) (by omega) hS hk h10 (hK.skip hsk) (by omega)
        · skip
          have hcj : rdw u (b + 14) j = 0 := by omega
          refine g_aload_n (pc' := 20) hX dX1_seeks_19 rfl rfl ?_
          refine gf_X1_35 (pc' := 23) hX dX1_seeks_20 hV.h0 hV.hk rfl ?_
          rw [hV.f 7 (by decide) (show xF 7 = 0 from rfl)]
          refine g_iload_n (pc' := 24) hX dX1_seeks_23 rfl rfl ?_
          refine g_aaldL (pc' := 25) hX dX1_seeks_24 (by have := hV.b0; omega) (by rw [hV.kk 0 (by decide) (show xK b 0 = 54 from rfl)]; decide) (hV.ln 0 (by decide) (show xL 0 = 7 from rfl)) (by omega) rfl ?_
          rw [hV.c0 (by omega)]
          refine g_iload_n (pc' := 26) hX dX1_seeks_25 rfl rfl ?_
          skip
          refine g_ialdL (pc' := 27) hX dX1_seeks_26 (by have := hV.b0; omega) (hV.ck (by omega)) (hV.cl (by omega)) (by omega) rfl ?_
          have e1 := hk (1 + row) j (by omega) (by omega)
          rw [show b + (1 + row) = b + 1 + row by omega] at e1
          rw [e1, hA row j hrow.1 hrow.2 j0 (by omega)]
          refine g_iload_n (pc' := 28) hX dX1_seeks_27 rfl rfl ?_
          refine g_icmp_le (pc' := 31) (tgt := 34) hX dX1_seeks_28 (by decide) rfl (by omega) (by omega) (fun h28 => ?_) (fun h28 => ?_)
          · skip
            have hLj : tC m h row j ≤ L := by omega
            refine g_aload_n (pc' := 35) hX dX1_seeks_34 rfl rfl ?_
            refine gf_X1_57 (pc' := 38) hX dX1_seeks_35 hV.h0 hV.hk rfl ?_
            rw [hV.f 14 (by decide) (show xF 14 = 14 from rfl)]
            refine g_iload_n (pc' := 39) hX dX1_seeks_38 rfl rfl ?_
            refine g_iconst (pc' := 40) hX dX1_seeks_39 rfl ?_
            refine g_zastL (pc' := 41) hX dX1_seeks_40 (by have := hV.hbb; omega) (hV.kk 14 (by decide) (show xK b 14 = 51 from rfl)) (hV.ln 14 (by decide) (show xL 14 = 7 from rfl)) (by omega) (Or.inr rfl) rfl ?_
            refine hS.up 14 (by omega) (fun u2 hS2 g2 h62 => ?_)
            have hV := hS2.1.1
            have hk2 : ∀ k q : Int, k ≠ 10 → k ≠ 14 → rdw u2 (b + k) q = rdw w (b + k) q := fun k q n10 n14 => by rw [g2 k q, if_neg (fun z => n14 z.1)]; exact hk k q n10 n14
            have h102 : rdw u2 (b + 10) = rdw w (b + 10) := (funext (fun q => by rw [g2 10 q, if_neg (by omega)])).trans h10
            have g14 : ∀ q : Int, rdw u2 (b + 14) q = if q = j then 1 else rdw u (b + 14) q := fun q => by
              rw [g2 14 q]
              by_cases hq : q = j
              · rw [if_pos ⟨rfl, hq⟩, if_pos hq]
              · rw [if_neg (fun z => hq z.2), if_neg hq]
            have hcnt := hK.cnt hvis ⟨⟨j0, by omega⟩, hcj⟩ g14
            have hroj := hro j j0 (by omega)
            refine g_aload_n (pc' := 42) hX dX1_seeks_41 rfl rfl ?_
            refine gf_X1_45 (pc' := 45) hX dX1_seeks_42 hV.h0 hV.hk rfl ?_
            first
              | rw [hV.f 10 (by decide) (show xF 10 = 10 from rfl)]
              | (repeat rw [rd_up_ne (by omega)]); rw [hV.f 10 (by decide) (show xF 10 = 10 from rfl)]
            refine g_iload_n (pc' := 46) hX dX1_seeks_45 rfl rfl ?_
            refine g_ialdL (pc' := 47) hX dX1_seeks_46 (by have := hV.b0; omega) (hV.kk 10 (by decide) (show xK b 10 = 50 from rfl)) (hV.ln 10 (by decide) (show xL 10 = 7 from rfl)) (by omega) rfl ?_
            repeat (first | rw [rd_up_ne (by omega)] | rw [rd_up_eq (by omega)])
            rw [h102]
            refine g_iconst (pc' := 48) hX dX1_seeks_47 rfl ?_
            refine g_icmp_eq (pc' := 51) (tgt := 65) hX dX1_seeks_48 (by decide) rfl (by omega) (by omega) (fun h48 => ?_) (fun h48 => ?_)
            · skip
              have hSx := hS2
              have hkx := hk2
              have h10x : ∀ q : Int, 0 ≤ q → q < n → rdw u2 (b + 10) q = -1 ∨ (0 ≤ rdw u2 (b + 10) q ∧ rdw u2 (b + 10) q < n) := fun q q0 q1 => by rw [h102]; exact hro q q0 q1
              have hKx : ∀ ro' : Int → Int, (∀ q, ro' q = if q = j then row else rdw u2 (b + 10) q) → KS n (tC m h) L row (rdw w (b + 10)) (rdw w (b + 14)) ro' := fun ro' hr => hK.free hvis hKI hrn ⟨⟨j0, by omega⟩, hcj, by omega⟩ hLj (by rw [h102] at hr; exact hr)
              refine g_aload_n (pc' := 66) hX dX1_seeks_65 rfl rfl ?_
              refine gf_X1_45 (pc' := 69) hX dX1_seeks_66 hV.h0 hV.hk rfl ?_
              first
                | rw [hV.f 10 (by decide) (show xF 10 = 10 from rfl)]
                | (repeat rw [rd_up_ne (by omega)]); rw [hV.f 10 (by decide) (show xF 10 = 10 from rfl)]
              refine g_iload_n (pc' := 70) hX dX1_seeks_69 rfl rfl ?_
              refine g_iload_n (pc' := 71) hX dX1_seeks_70 rfl rfl ?_
              refine g_iastL (pc' := 72) hX dX1_seeks_71 (by have := hV.hbb; omega) (hV.kk 10 (by decide) (show xK b 10 = 50 from rfl)) (hV.ln 10 (by decide) (show xL 10 = 7 from rfl)) (by omega) rfl ?_
              refine hSx.up 10 (by omega) (fun u3 hS3 g3 h63 => ?_)
              have g10 : ∀ q : Int, rdw u3 (b + 10) q = if q = j then row else _ := fun q => by
                rw [g3 10 q]
                by_cases hq : q = j
                · rw [if_pos ⟨rfl, hq⟩, if_pos hq]
                · rw [if_neg (fun z => hq z.2), if_neg hq]
              have hfin : SKQ E xo b n m h sn sm sh e L row w 1 u3 := ⟨hS3, fun k q n10 n14 => by rw [g3 k q, if_neg (fun z => n10 z.1)]; exact hkx k q n10 n14, fun q q0 q1 => by
                rw [g10 q]
                by_cases hq : q = j
                · rw [if_pos hq]; exact Or.inr hrow
                · rw [if_neg hq]; exact h10x q q0 q1, Or.inl ⟨rfl, hKx _ g10⟩⟩
              refine g_iconst (pc' := 73) hX dX1_seeks_72 rfl ?_
              exact g_retZ hX hF dX1_seeks_73 (Or.inr rfl) hfin
            · skip
              have hrj : 0 ≤ rdw w (b + 10) j ∧ rdw w (b + 10) j < n := by
                rcases hroj with z | z
                · exact absurd z (by omega)
                · exact z
              have hjj : (0 ≤ j ∧ j < n) ∧ rdw u (b + 14) j = 0 ∧ rdw w (b + 10) j ≠ -1 := ⟨⟨j0, by omega⟩, hcj, by omega⟩
              have hA2 : ∀ i j : Int, 0 ≤ i → i < n → 0 ≤ j → j < n → rdw u2 (b + 1 + i) j = tC m h i j := fun i j i0 i1 j0 j1 => by
                have e1 := hk2 (1 + i) j (by omega) (by omega)
                rw [show b + (1 + i) = b + 1 + i by omega] at e1
                rw [e1]; exact hA i j i0 i1 j0 j1
              refine g_aload_n (pc' := 52) hX dX1_seeks_51 rfl rfl ?_
              refine g_aload_n (pc' := 53) hX dX1_seeks_52 rfl rfl ?_
              refine gf_X1_45 (pc' := 56) hX dX1_seeks_53 hV.h0 hV.hk rfl ?_
              first
                | rw [hV.f 10 (by decide) (show xF 10 = 10 from rfl)]
                | (repeat rw [rd_up_ne (by omega)]); rw [hV.f 10 (by decide) (show xF 10 = 10 from rfl)]
              refine g_iload_n (pc' := 57) hX dX1_seeks_56 rfl rfl ?_
              refine g_ialdL (pc' := 58) hX dX1_seeks_57 (by have := hV.b0; omega) (hV.kk 10 (by decide) (show xK b 10 = 50 from rfl)) (hV.ln 10 (by decide) (show xL 10 = 7 from rfl)) (by omega) rfl ?_
              repeat (first | rw [rd_up_ne (by omega)] | rw [rd_up_eq (by omega)])
              rw [h102]
              refine g_iload_n (pc' := 59) hX dX1_seeks_58 rfl rfl ?_
              refine gV2I0 (pc' := 62) hX dX1_seeks_59 ml_X1_301 gc_X1 hV.h0 hV.hk (IH (t - 1) (by omega) u2 (rdw w (b + 10) j) ⟨hS2.1, hA2, hrj, fun q q0 q1 => by
                rw [g14 q]
                split
                · exact Or.inr rfl
                · exact (hK.1 q q0 q1).1, by rw [h102]; exact hro, by omega, by rw [h102]; exact hKI.inn hK hvis hjj g14⟩) (Nat.le_of_ble_eq_true rfl) (by omega) rfl (fun r59 w59 q59 => ?_)
              obtain ⟨hSi, hki, h10i, hri⟩ := q59
              have hS59 := hS2.tr hSi
              have hV := hS59.1.1
              have hk59 : ∀ k q : Int, k ≠ 10 → k ≠ 14 → rdw w59 (b + k) q = rdw w (b + k) q := fun k q n10 n14 => (hki k q n10 n14).trans (hk2 k q n10 n14)
              rw [h102] at hri
              have hrb : r59 = 0 ∨ r59 = 1 := by
                rcases hri with z | z
                · exact Or.inr z.1
                · exact Or.inl z.1
              refine g_if_eq (pc' := 65) (tgt := 74) hX dX1_seeks_62 (by decide) rfl (by omega) (fun h62 => ?_) (fun h62 => ?_)
              · skip
                obtain ⟨h1059, hK59⟩ : rdw w59 (b + 10) = rdw w (b + 10) ∧ KC n (tC m h) L row (rdw w (b + 10)) (rdw w (b + 14)) (rdw w59 (b + 14)) (j + 1) := by
                  rcases hri with z | z
                  · exact absurd z.1 (by omega)
                  · exact ⟨z.2.1, hK.fail hjj g14 z.2.2⟩
                refine g_iinc_3 (pc' := 77) hX dX1_seeks_74 (by decide) rfl rfl ?_
                refine g_goto (tgt := 2) hX dX1_seeks_77 (by decide) ?_
                first
                  | exact ih (j + 1) w59 (by omega) (by omega) hS59 hk59 h1059 hK59 (by omega)
                  | exact ih (j + 1) u (by omega) (by omega) hS hk h10 (hK.skip hsk) (by omega)
              · skip
                have hSx := hS59
                have hkx := hk59
                have h10x := h10i
                have hKx : ∀ ro' : Int → Int, (∀ q, ro' q = if q = j then row else rdw w59 (b + 10) q) → KS n (tC m h) L row (rdw w (b + 10)) (rdw w (b + 14)) ro' := fun ro' hr => by
                  rcases hri with z | z
                  · exact hK.succ hvis hKI hrn hjj hLj g14 z.2 hr
                  · exact absurd z.1 (by omega)
                refine g_aload_n (pc' := 66) hX dX1_seeks_65 rfl rfl ?_
                refine gf_X1_45 (pc' := 69) hX dX1_seeks_66 hV.h0 hV.hk rfl ?_
                rw [hV.f 10 (by decide) (show xF 10 = 10 from rfl)]
                refine g_iload_n (pc' := 70) hX dX1_seeks_69 rfl rfl ?_
                refine g_iload_n (pc' := 71) hX dX1_seeks_70 rfl rfl ?_
                refine g_iastL (pc' := 72) hX dX1_seeks_71 (by have := hV.hbb; omega) (hV.kk 10 (by decide) (show xK b 10 = 50 from rfl)) (hV.ln 10 (by decide) (show xL 10 = 7 from rfl)) (by omega) rfl ?_
                refine hSx.up 10 (by omega) (fun u3 hS3 g3 h63 => ?_)
                have g10 : ∀ q : Int, rdw u3 (b + 10) q = if q = j then row else _ := fun q => by
                  rw [g3 10 q]
                  by_cases hq : q = j
                  · rw [if_pos ⟨rfl, hq⟩, if_pos hq]
                  · rw [if_neg (fun z => hq z.2), if_neg hq]
                have hfin : SKQ E xo b n m h sn sm sh e L row w 1 u3 := ⟨hS3, fun k q n10 n14 => by rw [g3 k q, if_neg (fun z => n10 z.1)]; exact hkx k q n10 n14, fun q q0 q1 => by
                  rw [g10 q]
                  by_cases hq : q = j
                  · rw [if_pos hq]; exact Or.inr hrow
                  · rw [if_neg hq]; exact h10x q q0 q1, Or.inl ⟨rfl, hKx _ g10⟩⟩
                refine g_iconst (pc' := 73) hX dX1_seeks_72 rfl ?_
                exact g_retZ hX hF dX1_seeks_73 (Or.inr rfl) hfin
          · skip
            have hsk : rdw u (b + 14) j = 1 ∨ L < tC m h row j := Or.inr (by omega)
            refine g_goto (tgt := 74) hX dX1_seeks_31 (by decide) ?_
            refine g_iinc_3 (pc' := 77) hX dX1_seeks_74 (by decide) rfl rfl ?_
            refine g_goto (tgt := 2) hX dX1_seeks_77 (by decide) ?_
            first
              | exact ih (j + 1) w59 (by omega) (by omega) hS59 hk59 h1059 hK59 (by omega)
              | exact ih (j + 1) u (by omega) (by omega) hS hk h10 (hK.skip hsk) (by omega)
  exact loop 100 0 w (by omega) (by omega) (SB.rf hH) (fun _ _ _ _ => rfl) rfl (KC.init hvis) (by omega)

theorem c_s_seeks (hL : 0 ≤ L ∧ L ≤ 1000) : ∀ (t : Nat) (w : Wd) (row : Int), SKH E xo b n m h sn sm sh e L row w t → Call E mX1_seeks t 0 0 [vR xo, vI row, vI L] w (qI (SKQ E xo b n m h sn sm sh e L row w)) := by
  intro t
  induction t using Nat.strongRecOn with
  | ind t IH => exact fun w row hS => c_s_seeks1 hL IH hS
theorem c_s_isEnough (hH : XX E xo b n m h sn sm sh e w) (hL : 0 ≤ L ∧ L ≤ 1000) : Call E mX1_isEnough 8 0 0 [vR xo, vI L] w (qI (fun r w' => r = (if (LK n m h).2.2.2.2.1 ≤ L then 1 else 0) ∧ SB E xo b n m h sn sm sh e w w')) := by
  refine call_of (av := [(1, xo), (0, L)]) (by decide +kernel) rfl (Nat.le_of_ble_eq_true rfl) ?_
  intro X hX hF hname
  show GG X 0 0 w 0 [(1, xo), (0, L), (9, 0), (9, 0), (9, 0)] []
  have hS := SB.rf hH
  have hV := hH.1
  have hn := hH.2.2.1.1.2.1
  have hnb : 1 ≤ n ∧ n ≤ 7 := by omega
  have hC := hH.2.2.1.bCn
  have hfit := OB_fit (n := n) (m := m) (h := h) (L := L) hnb (by omega)
  refine g_aload_n (pc' := 1) hX dX1_isEnough_0 rfl rfl ?_
  refine gV0U0 (pc' := 4) hX dX1_isEnough_1 ml_X1_284 gc_X1 hV.h0 hV.hk (c_s_load hS.1) (Nat.le_of_ble_eq_true rfl) (by decide) rfl (fun w1 q1 => ?_)
  obtain ⟨-, hFl, h6, hA⟩ := q1
  have hS := hS.ld hFl
  have hV := hS.1.1
  refine g_iconst (pc' := 5) hX dX1_isEnough_4 rfl ?_
  refine g_istore_n_2 (pc' := 6) hX dX1_isEnough_5 (by decide) rfl rfl ?_
  have loop : ∀ (f : Nat) (i : Int) (u : Wd) (x3 x4 : Nat × Int), 0 ≤ i → i ≤ n → SB E xo b n m h sn sm sh e w u → (∀ p q : Int, 0 ≤ p → p < n → 0 ≤ q → q < n → rdw u (b + 1 + p) q = tC m h p q) → (∀ q : Int, 0 ≤ q → q < i → rdw u (b + 10) q = -1) → n < i + f → GG X 0 0 u 6 [(1, xo), (0, L), (0, i), x3, x4] [] := by
    intro f
    induction f with
    | zero => intro i u x3 x4 i0 i1 hS hA h10 hf; exact absurd hf (by omega)
    | succ f ih =>
      intro i u x3 x4 i0 i1 hS hA h10 hf
      have hV := hS.1.1
      refine g_iload_n (pc' := 7) hX dX1_isEnough_6 rfl rfl ?_
      refine g_aload_n (pc' := 8) hX dX1_isEnough_7 rfl rfl ?_
      refine gf_X1_7 (pc' := 11) hX dX1_isEnough_8 hV.h0 hV.hk rfl ?_
      rw [hS.1.2.2.1.1.1.1]
      refine g_icmp_ge (pc' := 14) (tgt := 27) hX dX1_isEnough_11 (by decide) rfl (by omega) (by omega) (fun h11 => ?_) (fun h11 => ?_)
      · skip
        refine g_iconst (pc' := 28) hX dX1_isEnough_27 rfl ?_
        refine g_istore_n_2 (pc' := 29) hX dX1_isEnough_28 (by decide) rfl rfl ?_
        refine g_iconst (pc' := 30) hX dX1_isEnough_29 rfl ?_
        refine g_istore_n_3 (pc' := 31) hX dX1_isEnough_30 (by decide) rfl rfl ?_
        have loop : ∀ (f : Nat) (i al : Int) (u : Wd) (x4 : Nat × Int), 0 ≤ i → i ≤ n → SB E xo b n m h sn sm sh e w u → (∀ p q : Int, 0 ≤ p → p < n → 0 ≤ q → q < n → rdw u (b + 1 + p) q = tC m h p q) → (∀ q : Int, 0 ≤ q → q < n → rdw u (b + 10) q = -1 ∨ (0 ≤ rdw u (b + 10) q ∧ rdw u (b + 10) q < n)) → ((al = 1 ∧ KM n i (tC m h) L (rdw u (b + 10))) ∨ (al = 0 ∧ ¬ MT' n.toNat (tC m h) L)) → n < i + f → GG X 0 0 u 31 [(1, xo), (0, L), (0, al), (0, i), x4] [] := by
          intro f
          induction f with
          | zero => intro i al u x4 i0 i1 hS hA hro hal hf; exact absurd hf (by omega)
          | succ f ih =>
            intro i al u x4 i0 i1 hS hA hro hal hf
            have hV := hS.1.1
            have halb : al = 0 ∨ al = 1 := by
              rcases hal with z | z
              · exact Or.inr z.1
              · exact Or.inl z.1
            refine g_iload_n (pc' := 32) hX dX1_isEnough_31 rfl rfl ?_
            refine g_aload_n (pc' := 33) hX dX1_isEnough_32 rfl rfl ?_
            refine gf_X1_7 (pc' := 36) hX dX1_isEnough_33 hV.h0 hV.hk rfl ?_
            rw [hS.1.2.2.1.1.1.1]
            refine g_icmp_ge (pc' := 39) (tgt := 82) hX dX1_isEnough_36 (by decide) rfl (by omega) (by omega) (fun h36 => ?_) (fun h36 => ?_)
            · skip
              have hans : al = (if (LK n m h).2.2.2.2.1 ≤ L then 1 else 0) := by
                rcases hal with z | z
                · rw [if_pos (hfit.mpr ((by have e := z.2; rw [show i = n by omega] at e; exact e : KM n n (tC m h) L (rdw u (b + 10))).all (by omega)))]; exact z.1
                · rw [if_neg (fun y => z.2 (hfit.mp y))]; exact z.1
              refine g_iload_n (pc' := 83) hX dX1_isEnough_82 rfl rfl ?_
              exact g_retZ hX hF dX1_isEnough_83 halb ⟨hans, hS⟩
            · skip
              refine g_iload_n (pc' := 40) hX dX1_isEnough_39 rfl rfl ?_
              refine g_if_eq (pc' := 43) (tgt := 82) hX dX1_isEnough_40 (by decide) rfl (by omega) (fun h40 => ?_) (fun h40 => ?_)
              · skip
                have hans : al = (if (LK n m h).2.2.2.2.1 ≤ L then 1 else 0) := by
                  rcases hal with z | z
                  · exact absurd z.1 (by omega)
                  · rw [if_neg (fun y => z.2 (hfit.mp y))]; exact z.1
                refine g_iload_n (pc' := 83) hX dX1_isEnough_82 rfl rfl ?_
                exact g_retZ hX hF dX1_isEnough_83 halb ⟨hans, hS⟩
              · skip
                have hKM : KM n i (tC m h) L (rdw u (b + 10)) := by
                  rcases hal with z | z
                  · exact z.2
                  · exact absurd z.1 (by omega)
                refine g_iconst (pc' := 44) hX dX1_isEnough_43 rfl ?_
                refine g_istore_4 (pc' := 46) hX dX1_isEnough_44 (by decide) rfl rfl ?_
                have loop2 : ∀ (f : Nat) (j : Int) (v : Wd), 0 ≤ j → j ≤ n → SB E xo b n m h sn sm sh e w v → (∀ k q : Int, k ≠ 14 → rdw v (b + k) q = rdw u (b + k) q) → (∀ q : Int, 0 ≤ q → q < j → rdw v (b + 14) q = 0) → n < j + f → GG X 0 0 v 46 [(1, xo), (0, L), (0, al), (0, i), (0, j)] [] := by
                  intro f
                  induction f with
                  | zero => intro j v j0 j1 hS hk h14 hf; exact absurd hf (by omega)
                  | succ f ih2 =>
                    intro j v j0 j1 hS hk h14 hf
                    have hV := hS.1.1
                    refine g_iload (pc' := 48) hX dX1_isEnough_46 rfl rfl ?_
                    refine g_aload_n (pc' := 49) hX dX1_isEnough_48 rfl rfl ?_
                    refine gf_X1_7 (pc' := 52) hX dX1_isEnough_49 hV.h0 hV.hk rfl ?_
                    rw [hS.1.2.2.1.1.1.1]
                    refine g_icmp_ge (pc' := 55) (tgt := 69) hX dX1_isEnough_52 (by decide) rfl (by omega) (by omega) (fun h52 => ?_) (fun h52 => ?_)
                    · skip
                      have e10 : rdw v (b + 10) = rdw u (b + 10) := funext (fun q => hk 10 q (by omega))
                      have hAv : ∀ p q : Int, 0 ≤ p → p < n → 0 ≤ q → q < n → rdw v (b + 1 + p) q = tC m h p q := fun p q p0 p1 q0 q1 => by
                        have e1 := hk (1 + p) q (by omega)
                        rw [show b + (1 + p) = b + 1 + p by omega] at e1
                        rw [e1]; exact hA p q p0 p1 q0 q1
                      have hv0 : ∀ q : Int, 0 ≤ q → q < n → rdw v (b + 14) q = 0 := fun q q0 q1 => h14 q q0 (by omega)
                      have hsum0 : 0 ≤ sm' n.toNat (rdw v (b + 14)) := sm_b0 _ (fun q q0 q1 => by rw [hv0 q q0 (by omega)]; exact Int.le_refl _)
                      refine g_aload_n (pc' := 70) hX dX1_isEnough_69 rfl rfl ?_
                      refine g_iload_n (pc' := 71) hX dX1_isEnough_70 rfl rfl ?_
                      refine g_iload_n (pc' := 72) hX dX1_isEnough_71 rfl rfl ?_
                      refine gV2I0 (pc' := 75) hX dX1_isEnough_72 ml_X1_301 gc_X1 hV.h0 hV.hk (c_s_seeks hL 7 v i ⟨hS.1, hAv, ⟨i0, by omega⟩, fun q q0 q1 => Or.inl (hv0 q q0 q1), by rw [e10]; exact hro, by omega, by rw [e10]; exact hKM.ki⟩) (Nat.le_of_ble_eq_true rfl) (by decide) rfl (fun r72 w72 q72 => ?_)
                      obtain ⟨hSi, hki, h10i, hri⟩ := q72
                      have hS72 := hS.tr hSi
                      rw [e10] at hri
                      have hA72 : ∀ p q : Int, 0 ≤ p → p < n → 0 ≤ q → q < n → rdw w72 (b + 1 + p) q = tC m h p q := fun p q p0 p1 q0 q1 => by
                        have e1 := hki (1 + p) q (by omega) (by omega)
                        rw [show b + (1 + p) = b + 1 + p by omega] at e1
                        rw [e1]; exact hAv p q p0 p1 q0 q1
                      have hal2 : (r72 = 1 ∧ KM n (i + 1) (tC m h) L (rdw w72 (b + 10))) ∨ (r72 = 0 ∧ ¬ MT' n.toNat (tC m h) L) := by
                        rcases hri with z | z
                        · exact Or.inl ⟨z.1, hKM.succ i0 hv0 z.2⟩
                        · exact Or.inr ⟨z.1, hKM.no ⟨i0, by omega⟩ hv0 z.2.2⟩
                      refine g_istore_n_2 (pc' := 76) hX dX1_isEnough_75 (by decide) rfl rfl ?_
                      refine g_iinc_3 (pc' := 79) hX dX1_isEnough_76 (by decide) rfl rfl ?_
                      refine g_goto (tgt := 31) hX dX1_isEnough_79 (by decide) ?_
                      exact ih (i + 1) r72 w72 _ (by omega) (by omega) hS72 hA72 h10i hal2 (by omega)
                    · skip
                      refine g_aload_n (pc' := 56) hX dX1_isEnough_55 rfl rfl ?_
                      refine gf_X1_57 (pc' := 59) hX dX1_isEnough_56 hV.h0 hV.hk rfl ?_
                      rw [hV.f 14 (by decide) (show xF 14 = 14 from rfl)]
                      refine g_iload (pc' := 61) hX dX1_isEnough_59 rfl rfl ?_
                      refine g_iconst (pc' := 62) hX dX1_isEnough_61 rfl ?_
                      refine g_zastL (pc' := 63) hX dX1_isEnough_62 (by have := hV.hbb; omega) (hV.kk 14 (by decide) (show xK b 14 = 51 from rfl)) (hV.ln 14 (by decide) (show xL 14 = 7 from rfl)) (by omega) (Or.inl rfl) rfl ?_
                      refine hS.up 14 (by omega) (fun u2 hS g2 h62 => ?_)
                      refine g_iinc_4 (pc' := 66) hX dX1_isEnough_63 (by decide) rfl rfl ?_
                      refine g_goto (tgt := 46) hX dX1_isEnough_66 (by decide) ?_
                      exact ih2 (j + 1) u2 (by omega) (by omega) hS (fun k q n14 => by rw [g2 k q, if_neg (fun z => n14 z.1)]; exact hk k q n14) (fun q q0 q1 => by
                        rw [g2 14 q]
                        by_cases hq : q = j
                        · rw [if_pos ⟨rfl, hq⟩]
                        · rw [if_neg (fun z => hq z.2)]; exact h14 q q0 (by omega)) (by omega)
                exact loop2 100 0 u (by omega) (by omega) hS (fun _ _ _ => rfl) (fun q q0 q1 => by omega) (by omega)
        exact loop 100 0 1 u _ (by omega) (by omega) hS hA (fun q q0 q1 => Or.inl (h10 q q0 (by omega))) (Or.inl ⟨rfl, fun q q0 q1 => Or.inl (h10 q q0 (by omega)), fun p q p0 p1 q0 q1 e3 e4 => absurd (h10 p p0 (by omega)) e4, fun r r0 r1 => by omega⟩) (by omega)
      · skip
        refine g_aload_n (pc' := 15) hX dX1_isEnough_14 rfl rfl ?_
        refine gf_X1_45 (pc' := 18) hX dX1_isEnough_15 hV.h0 hV.hk rfl ?_
        rw [hV.f 10 (by decide) (show xF 10 = 10 from rfl)]
        refine g_iload_n (pc' := 19) hX dX1_isEnough_18 rfl rfl ?_
        refine g_iconst (pc' := 20) hX dX1_isEnough_19 rfl ?_
        refine g_iastL (pc' := 21) hX dX1_isEnough_20 (by have := hV.hbb; omega) (hV.kk 10 (by decide) (show xK b 10 = 50 from rfl)) (hV.ln 10 (by decide) (show xL 10 = 7 from rfl)) (by omega) rfl ?_
        refine hS.up 10 (by omega) (fun u2 hS g2 h62 => ?_)
        refine g_iinc_2 (pc' := 24) hX dX1_isEnough_21 (by decide) rfl rfl ?_
        refine g_goto (tgt := 6) hX dX1_isEnough_24 (by decide) ?_
        exact ih (i + 1) u2 _ _ (by omega) (by omega) hS (fun p q p0 p1 q0 q1 => by
          have e1 := g2 (1 + p) q
          rw [show b + (1 + p) = b + 1 + p by omega, if_neg (by omega)] at e1
          rw [e1]; exact hA p q p0 p1 q0 q1) (fun q q0 q1 => by
          rw [g2 10 q]
          by_cases hq : q = i
          · rw [if_pos ⟨rfl, hq⟩]
          · rw [if_neg (fun z => hq z.2)]; exact h10 q q0 (by omega)) (by omega)
  exact loop 100 0 _ _ _ (by omega) (by omega) hS hA (fun q q0 q1 => by omega) (by omega)

theorem c_o_fits (hH : XX E xo b n m h sn sm sh e w) (ba : -2147483648 ≤ a ∧ a ≤ 2147483647)  : Call E mX1_fits 9 1 6 [vR xo, vI a] w (qC (if 0 ≤ a ∧ a ≤ 1000 then 0 else 2) (if (LK n m h).2.2.2.2.1 ≤ a then 1 else 0) (fun w' => XX E xo b n m h sn sm sh e w' ∧ Gr (fun a _ => ZX xo b w a) w w') w) := by
  refine call_of (av := [(1, xo), (0, a)]) (by decide +kernel) rfl (Nat.le_of_ble_eq_true rfl) ?_
  intro X hX hF hname
  show GG X 1 6 w 0 [(1, xo), (0, a)] []
  have hS := SB.rf hH
  have hV := hH.1
  have hn := hH.2.2.1.1.2.1
  have hnb : 1 ≤ n ∧ n ≤ 7 := by omega
  have hC := hH.2.2.1.bCn
  refine g_iload_n (pc' := 1) hX dX1_fits_0 rfl rfl ?_
  refine g_i2l (pc' := 2) hX dX1_fits_1 (by omega) rfl ?_
  refine g_lconst (pc' := 3) (v := 0) hX dX1_fits_2 rfl rfl ?_
  refine g_ldc2 (pc' := 6) (n := 1000) hX dX1_fits_3 q1423 rfl rfl ?_
  refine gS3E0 (pc' := 9) hX dX1_fits_6 ml_X1_127 (c_k_isIn (by omega) (by omega) (by omega)) (Nat.le_of_ble_eq_true rfl) (by decide) rfl ?_
  refine gS1UX (pc' := 12) hX dX1_fits_9 ml_X1_162 (c_k_needNumber (by omega)) (Nat.le_of_ble_eq_true rfl) (by decide) ⟨by omega, by omega⟩ rfl (fun w9 q9 => ?_) (fun k2 w2 hk0 hq => by
    obtain ⟨rfl, hz9, hG9⟩ := hq
    exact g_outX hX hF hk0 ⟨by (repeat' split) <;> omega, hG9⟩)
  obtain ⟨hz9, hw9⟩ := q9
  rw [hw9]
  refine g_aload_n (pc' := 13) hX dX1_fits_12 rfl rfl ?_
  refine g_iload_n (pc' := 14) hX dX1_fits_13 rfl rfl ?_
  refine gV1I0 (pc' := 17) hX dX1_fits_14 ml_X1_305 gc_X1 hV.h0 hV.hk (c_s_isEnough hS.1 (by omega)) (Nat.le_of_ble_eq_true rfl) (by decide) rfl (fun r14 w14 q14 => ?_)
  obtain ⟨hr14, hS14⟩ := q14
  have hS := hS.tr hS14
  have hV := hS.1.1
  exact g_retZX hX hF dX1_fits_17 (by rw [hr14]; split <;> omega) ⟨by (repeat' split) <;> omega, hr14, hS.1, hS.gx hH.1⟩

theorem c_o_bottleneck (hH : XX E xo b n m h sn sm sh e w)  : Call E mX1_bottleneck 9 0 0 [vR xo] w (qI (fun r w' => r = (LK n m h).2.2.2.2.1 ∧ XX E xo b n m h sn sm sh e w' ∧ Gr (fun a _ => ZX xo b w a) w w')) := by
  refine call_of (av := [(1, xo)]) (by decide +kernel) rfl (Nat.le_of_ble_eq_true rfl) ?_
  intro X hX hF hname
  show GG X 0 0 w 0 [(1, xo), (9, 0), (9, 0), (9, 0)] []
  have hS := SB.rf hH
  have hV := hH.1
  have hn := hH.2.2.1.1.2.1
  have hnb : 1 ≤ n ∧ n ≤ 7 := by omega
  have hC := hH.2.2.1.bCn
  have hnar := OB_nar hnb hC hH.2.2.1.v9
  refine g_aload_n (pc' := 1) hX dX1_bottleneck_0 rfl rfl ?_
  refine g_bipush (pc' := 3) hX dX1_bottleneck_1 rfl rfl ?_
  refine gV1I0 (pc' := 6) hX dX1_bottleneck_3 ml_X1_305 gc_X1 hV.h0 hV.hk (c_s_isEnough hS.1 (by omega)) (Nat.le_of_ble_eq_true rfl) (by decide) rfl (fun r3 w3 q3 => ?_)
  obtain ⟨hr3, hS3⟩ := q3
  have hS := hS.tr hS3
  have hV := hS.1.1
  refine g_if_ne (pc' := 9) (tgt := 13) hX dX1_bottleneck_6 (by decide) rfl (by split at hr3 <;> omega) (fun h6 => ?_) (fun h6 => ?_)
  · skip
    have hB1 : (LK n m h).2.2.2.2.1 ≤ 99 := by split at hr3 <;> omega
    refine g_iconst (pc' := 14) hX dX1_bottleneck_13 rfl ?_
    refine g_istore_n_1 (pc' := 15) hX dX1_bottleneck_14 (by decide) rfl rfl ?_
    refine g_bipush (pc' := 17) hX dX1_bottleneck_15 rfl rfl ?_
    refine g_istore_n_2 (pc' := 18) hX dX1_bottleneck_17 (by decide) rfl rfl ?_
    have loop : ∀ (f : Nat) (lo hi : Int) (u : Wd) (x3 : Nat × Int), 0 ≤ lo → lo ≤ (LK n m h).2.2.2.2.1 → (LK n m h).2.2.2.2.1 ≤ hi → hi ≤ 99 → SB E xo b n m h sn sm sh e w u → hi - lo < f → GG X 0 0 u 18 [(1, xo), (0, lo), (0, hi), x3] [] := by
      intro f
      induction f with
      | zero => intro lo hi u x3 l0 l1 l2 l3 hS hf; exact absurd hf (by omega)
      | succ f ih =>
        intro lo hi u x3 l0 l1 l2 l3 hS hf
        have hV := hS.1.1
        refine g_iload_n (pc' := 19) hX dX1_bottleneck_18 rfl rfl ?_
        refine g_iload_n (pc' := 20) hX dX1_bottleneck_19 rfl rfl ?_
        refine g_icmp_ge (pc' := 23) (tgt := 49) hX dX1_bottleneck_20 (by decide) rfl (by omega) (by omega) (fun h20 => ?_) (fun h20 => ?_)
        · skip
          refine g_iload_n (pc' := 50) hX dX1_bottleneck_49 rfl rfl ?_
          exact g_retI hX hF dX1_bottleneck_50 ⟨by omega, hS.1, hS.gx hH.1⟩
        · skip
          refine g_iload_n (pc' := 24) hX dX1_bottleneck_23 rfl rfl ?_
          refine g_iload_n (pc' := 25) hX dX1_bottleneck_24 rfl rfl ?_
          refine g_iadd (pc' := 26) hX dX1_bottleneck_25 rfl ?_
          refine g_iconst (pc' := 27) hX dX1_bottleneck_26 rfl ?_
          refine g_idivP (pc' := 28) hX dX1_bottleneck_27 (by omega) (by omega) rfl ?_
          refine g_istore_n_3 (pc' := 29) hX dX1_bottleneck_28 (by decide) rfl rfl ?_
          refine g_aload_n (pc' := 30) hX dX1_bottleneck_29 rfl rfl ?_
          refine g_iload_n (pc' := 31) hX dX1_bottleneck_30 rfl rfl ?_
          refine gV1I0 (pc' := 34) hX dX1_bottleneck_31 ml_X1_305 gc_X1 hV.h0 hV.hk (c_s_isEnough hS.1 (by omega)) (Nat.le_of_ble_eq_true rfl) (by decide) rfl (fun r31 w31 q31 => ?_)
          obtain ⟨hr31, hS31⟩ := q31
          have hS := hS.tr hS31
          have hV := hS.1.1
          refine g_if_eq (pc' := 37) (tgt := 42) hX dX1_bottleneck_34 (by decide) rfl (by split at hr31 <;> omega) (fun h34 => ?_) (fun h34 => ?_)
          · skip
            have hB4 : (lo + hi) / 2 + 1 ≤ (LK n m h).2.2.2.2.1 := by split at hr31 <;> omega
            refine g_iload_n (pc' := 43) hX dX1_bottleneck_42 rfl rfl ?_
            refine g_iconst (pc' := 44) hX dX1_bottleneck_43 rfl ?_
            refine g_iadd (pc' := 45) hX dX1_bottleneck_44 rfl ?_
            refine g_istore_n_1 (pc' := 46) hX dX1_bottleneck_45 (by decide) rfl rfl ?_
            refine g_goto (tgt := 18) hX dX1_bottleneck_46 (by decide) ?_
            first
              | exact ih lo ((lo + hi) / 2) w31 _ (by omega) (by omega) hB3 (by omega) hS (by omega)
              | exact ih ((lo + hi) / 2 + 1) hi w31 _ (by omega) hB4 (by omega) (by omega) hS (by omega)
          · skip
            have hB3 : (LK n m h).2.2.2.2.1 ≤ (lo + hi) / 2 := by split at hr31 <;> omega
            refine g_iload_n (pc' := 38) hX dX1_bottleneck_37 rfl rfl ?_
            refine g_istore_n_2 (pc' := 39) hX dX1_bottleneck_38 (by decide) rfl rfl ?_
            refine g_goto (tgt := 46) hX dX1_bottleneck_39 (by decide) ?_
            refine g_goto (tgt := 18) hX dX1_bottleneck_46 (by decide) ?_
            first
              | exact ih lo ((lo + hi) / 2) w31 _ (by omega) (by omega) hB3 (by omega) hS (by omega)
              | exact ih ((lo + hi) / 2 + 1) hi w31 _ (by omega) hB4 (by omega) (by omega) hS (by omega)
    exact loop 200 0 99 w3 _ (by omega) hnar.1 hB1 (by omega) hS (by omega)
  · skip
    have hB2 : (LK n m h).2.2.2.2.1 = 1000 := by split at hr3 <;> omega
    refine g_sipush (pc' := 12) hX dX1_bottleneck_9 rfl rfl ?_
    exact g_retI hX hF dX1_bottleneck_12 ⟨hB2.symm, hS.1, hS.gx hH.1⟩

end S10S
