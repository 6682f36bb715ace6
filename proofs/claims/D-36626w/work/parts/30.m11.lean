/-! MODEL: the next sum, the sum of a code, the checksum (by gen/spec_m11.py) -/
set_option maxRecDepth 100000
set_option maxHeartbeats 4000000
/-- bits of small numbers -/
theorem b_shr : ∀ s < 128, ∀ c < 7, Int32.ofInt ((s : Nat) : Int) >>> (Int32.ofInt ((c : Nat) : Int) &&& 31) = Int32.ofInt ((s >>> c : Nat) : Int) := by decide +kernel
theorem b_and1 : ∀ s < 128, Int32.ofInt ((s : Nat) : Int) &&& Int32.ofInt 1 = Int32.ofInt ((s % 2 : Nat) : Int) := by decide +kernel
theorem b_shl1 : ∀ c < 8, Int32.ofInt 1 <<< (Int32.ofInt ((c : Nat) : Int) &&& 31) = Int32.ofInt ((1 <<< c : Nat) : Int) := by decide +kernel
theorem b_or : ∀ s < 128, ∀ c < 7, Int32.ofInt ((s : Nat) : Int) ||| Int32.ofInt ((1 <<< c : Nat) : Int) = Int32.ofInt ((s ||| 1 <<< c : Nat) : Int) := by decide +kernel
theorem b_shr_lt : ∀ s < 128, ∀ c < 7, s >>> c < 128 := by decide +kernel
theorem b_or_lt : ∀ s < 128, ∀ c < 7, s ||| 1 <<< c < 128 := by decide +kernel
theorem b_and1' {s : Nat} (h : s < 128) : Int32.ofInt (s : Int) &&& Int32.ofInt 1 = Int32.ofInt ((s % 2 : Nat) : Int) := b_and1 s h
/-- the best assignment behind the last one -/
def nxP (C : Int → Int → Int) (ls lp : Int) (l : List (List Nat)) : Nat → Int × Int × List Nat
  | 0 => (1000000, 0, [])
  | k + 1 => if (ls < ps C 0 (l.getD k []) ∨ (ps C 0 (l.getD k []) = ls ∧ lp < k)) ∧ ps C 0 (l.getD k []) < (nxP C ls lp l k).1 then (ps C 0 (l.getD k []), k, l.getD k []) else nxP C ls lp l k
def cuOf (e : En) (τ : List Nat) (i : Int) : Int := if i < τ.length then ((τ.getD i.toNat 0 : Nat) : Int) else e.cu i
def nxE (e : En) (p : Int × Int × List Nat) : En := (e.k + 1, p.1, p.2.1, cuOf e p.2.2)
theorem nxP_b {C : Int → Int → Int} {ls lp : Int} {l : List (List Nat)} {n : Nat} (h : ∀ σ ∈ l, (0 ≤ ps C 0 σ ∧ ps C 0 σ ≤ 7000) ∧ σ.length = n) : ∀ k, k ≤ l.length → (0 ≤ (nxP C ls lp l k).1 ∧ (nxP C ls lp l k).1 ≤ 1000000) ∧ (0 ≤ (nxP C ls lp l k).2.1 ∧ (nxP C ls lp l k).2.1 ≤ k) ∧ ((nxP C ls lp l k).2.2.length = 0 ∨ (nxP C ls lp l k).2.2.length = n)
  | 0, _ => by simp [nxP]
  | k + 1, hk => by
    have h1 := nxP_b h k (by omega) (ls := ls) (lp := lp)
    have h2 : l.getD k [] ∈ l := by
      rw [List.getD_eq_getElem?_getD, List.getElem?_eq_getElem (by omega)]; exact List.getElem_mem _
    have h3 := h _ h2
    unfold nxP
    split
    · exact ⟨⟨h3.1.1, by have := h3.1.2; simp only []; omega⟩, ⟨by simp only []; omega, by simp only []; omega⟩, Or.inr h3.2⟩
    · exact ⟨h1.1, ⟨h1.2.1.1, by have := h1.2.1.2; omega⟩, h1.2.2⟩
/-- sum of a code: rows left, rest of the code, columns seen, sum; the rest in the end is 0 or it is refused -/
def soF (n m : Int) (h : Int → Int → Int) : Nat → Int → Nat → Int → Int × Int
  | 0, l, _, a => (l, a)
  | k + 1, l, s, a => if (0 ≤ l.tmod 10 - 1 ∧ l.tmod 10 - 1 ≤ n - 1) ∧ s >>> (l.tmod 10 - 1).toNat % 2 = 0 then soF n m h k (l.tdiv 10) (s ||| 1 <<< (l.tmod 10 - 1).toNat) (a + tC m h k (l.tmod 10 - 1)) else (-1, a)
theorem tm_pos {l : Int} (h : 0 ≤ l.tmod 10 - 1) : 0 < l := by
  apply Int.lt_of_not_ge
  intro hl
  have h1 : (-l).tmod 10 = -(l.tmod 10) := Int.neg_tmod ..
  have h2 : 0 ≤ (-l).tmod 10 := Int.tmod_nonneg _ (by omega)
  omega
/-- checksums -/
def hf (f : Int → Int) : Nat → Int → Int
  | 0, x => x
  | k + 1, x => 31 * hf f k x + f k
def hf2 (n : Nat) (f : Int → Int → Int) : Nat → Int → Int
  | 0, x => x
  | k + 1, x => hf (f k) n (hf2 n f k x)
theorem hf_s {f : Int → Int} {i x : Int} (h : 0 ≤ i) : hf f (i + 1).toNat x = 31 * hf f i.toNat x + f i := by
  rw [show (i + 1).toNat = i.toNat + 1 by omega]
  show 31 * hf f i.toNat x + f (i.toNat : Int) = _
  rw [Int.toNat_of_nonneg h]
theorem hf2_s {n : Nat} {f : Int → Int → Int} {i x : Int} (h : 0 ≤ i) : hf2 n f (i + 1).toNat x = hf (f i) n (hf2 n f i.toNat x) := by
  rw [show (i + 1).toNat = i.toNat + 1 by omega]
  show hf (f (i.toNat : Int)) n _ = _
  rw [Int.toNat_of_nonneg h]
def ck0 (n m : Int) (h : Int → Int → Int) (k : Int) : Int := 31 * (31 * (31 * (31 * (527 + n) + m) + cF n m h) + tS n m h) + k
def ck1 (n m : Int) (h : Int → Int → Int) (k : Int) : Int := 31 * hf2 n.toNat (tC m h) n.toNat (ck0 n m h k) + (LK n m h).1
def ck2 (n m : Int) (h : Int → Int → Int) (k sn sm : Int) : Int := 31 * (31 * hf (fun i => (((LK n m h).2.2.2.2.2.getD i.toNat 0 : Nat) : Int)) n.toNat (ck1 n m h k) + sn) + sm
def ckS (n m : Int) (h : Int → Int → Int) (k sn sm : Int) (sh : Int → Int → Int) : Int := hf2 sn.toNat (tC sm sh) sn.toNat (ck2 n m h k sn sm)
section M11
variable {E : Ev} {mo n m sn sm : Int} {h sh : Int → Int → Int} {e : En} {w : Wd}
theorem MM.stC {X : Cx} {bc bs pc : Nat} {lv : List (Nat × Int)} {st : List Value} {P : Int → Int → Prop} {w0 : Wd} {k x a b : Int} {cu : Int → Int} (H : MM E mo n m h sn sm sh (e.k, a, b, cu) w) (hF : Fr P w0 w) (hx : 0 ≤ x ∧ x ≤ 6) (hp : P (mo + 9) k) (K : MM E mo n m h sn sm sh (e.k, a, b, fun j => if j = k then x else cu j) (upw w (mo + 9) k x) → Fr P w0 (upw w (mo + 9) k x) → GG X bc bs (upw w (mo + 9) k x) pc lv st) : GG X bc bs (upw w (mo + 9) k x) pc lv st := by
  have hF1 : Fr (fun a _ => a = mo + 9) w (upw w (mo + 9) k x) := Fr.rf.up rfl
  refine K ⟨H.1.fr hF1 (fun i z => by omega), H.2.1.fr hF1 (fun i z => by omega), H.2.2.1.fr hF1 (fun i z => by omega) (fun i z => by omega), H.2.2.2.1.fr hF1 (fun i z => by omega) (fun i z => by omega), ⟨?_, H.2.2.2.2.2.1, H.2.2.2.2.2.2.1, H.2.2.2.2.2.2.2.1, fun i i0 i1 => ?_⟩⟩ (hF.up hp)
  · rw [rd_up_ne (by omega), rd_up_ne (by omega), rd_up_ne (by omega)]; exact H.2.2.2.2.1
  · show rdw (upw w (mo + 9) k x) (mo + 9) i = (if i = k then x else cu i) ∧ 0 ≤ (if i = k then x else cu i) ∧ (if i = k then x else cu i) ≤ 6
    by_cases hi : i = k
    · rw [rd_up_eq ⟨rfl, hi⟩, if_pos hi]; exact ⟨rfl, hx⟩
    · rw [rd_up_ne (fun z => hi z.2), if_neg hi]; exact H.2.2.2.2.2.2.2.2 i i0 i1
theorem MM.ecg {a b c : Int} {cu cu' : Int → Int} (H : MM E mo n m h sn sm sh (a, b, c, cu) w) (hh : ∀ i : Int, 0 ≤ i → i < 7 → cu' i = cu i) : MM E mo n m h sn sm sh (a, b, c, cu') w :=
  ⟨H.1, H.2.1, H.2.2.1, H.2.2.2.1, H.2.2.2.2.1, H.2.2.2.2.2.1, H.2.2.2.2.2.2.1, H.2.2.2.2.2.2.2.1, fun i i0 i1 => by
    show rdw w (mo + 9) i = cu' i ∧ 0 ≤ cu' i ∧ cu' i ≤ 6
    rw [hh i i0 i1]; exact H.2.2.2.2.2.2.2.2 i i0 i1⟩
theorem c_mo_nextSum (hM : MM E mo n m h sn sm sh e w)  (hke : e.k ≤ fc n.toNat) : Call E mX4_nextSum 9 0 0 [vR mo] w (qI (mP mo w (if e.k < 0 then 1 else if e.k = fc n.toNat then 2 else 0) ((nxP (tC m h) e.ls e.lp (pmN n.toNat) (fc n.toNat)).1) (fun w' => MM E mo n m h sn sm sh (nxE e (nxP (tC m h) e.ls e.lp (pmN n.toNat) (fc n.toNat))) w') (fun w' => MM E mo n m h sn sm sh e w'))) := by
  refine call_of (av := [(1, mo)]) (by decide +kernel) rfl (Nat.le_of_ble_eq_true rfl) ?_
  intro X hX hF hname
  show GG X 0 0 w 0 [(1, mo), (9, 0), (9, 0), (9, 0), (9, 0), (9, 0), (9, 0)] []
  have hb := hM.1.b
  have hsb := hM.2.1.2
  have hfl0 := fc_le n.toNat (by omega)
  refine g_aload_n (pc' := 1) hX dX4_nextSum_0 rfl rfl ?_
  refine g_aload_n (pc' := 2) hX dX4_nextSum_1 rfl rfl ?_
  refine gf_X4_48 (pc' := 5) hX dX4_nextSum_2 hM.1.h0 hM.1.hk rfl ?_
  rw [hM.2.2.2.2.1.1]
  have hek := hM.2.2.2.2.2.1
  refine g_if_ge (pc' := 8) (tgt := 12) hX dX4_nextSum_5 (by decide) rfl (by omega) (fun h5 => ?_) (fun h5 => ?_)
  · skip
    refine g_aload_n (pc' := 13) hX dX4_nextSum_12 rfl rfl ?_
    refine gf_X4_48 (pc' := 16) hX dX4_nextSum_13 hM.1.h0 hM.1.hk rfl ?_
    rw [hM.2.2.2.2.1.1]
    refine g_aload_n (pc' := 17) hX dX4_nextSum_16 rfl rfl ?_
    refine gf_X4_7 (pc' := 20) hX dX4_nextSum_17 hM.1.h0 hM.1.hk rfl ?_
    rw [hM.1.vn]
    refine gS1E0 (pc' := 23) hX dX4_nextSum_20 ml_X4_67 (c_m_factorial (by omega) (by omega)) (Nat.le_of_ble_eq_true rfl) (by decide) rfl ?_
    refine g_icmp_ne (pc' := 26) (tgt := 30) hX dX4_nextSum_23 (by decide) rfl (by omega) (by omega) (fun h23 => ?_) (fun h23 => ?_)
    · skip
      refine g_iconst (pc' := 31) hX dX4_nextSum_30 rfl ?_
      refine gV1I0 (pc' := 34) hX dX4_nextSum_31 ml_X4_118 gc_X4 hM.1.h0 hM.1.hk (c_m_wrong hM (by omega)) (Nat.le_of_ble_eq_true rfl) (by decide) rfl (fun r31 w31 q31 => ?_)
      obtain ⟨hM, hWA, hR, h4, hr31⟩ := q31
      have hI := hM.1
      have hW : Fr (zB mo) w31 w31 := Fr.rf
      have e0 : r31 = 0 := by omega
      subst e0
      clear hr31
      have hek := hM.2.2.2.2.2.1
      refine g_if_eq (pc' := 37) (tgt := 39) hX dX4_nextSum_34 (by decide) rfl (by omega) (fun h34 => ?_) (fun h34 => absurd h34 (by omega))
      refine g_ldc (pc' := 41) (n := 1000000) hX dX4_nextSum_39 q1735 rfl rfl ?_
      refine g_istore_n_1 (pc' := 42) hX dX4_nextSum_41 (by decide) rfl rfl ?_
      refine g_iconst (pc' := 43) hX dX4_nextSum_42 rfl ?_
      refine g_istore_n_2 (pc' := 44) hX dX4_nextSum_43 (by decide) rfl rfl ?_
      refine g_aload_n (pc' := 45) hX dX4_nextSum_44 rfl rfl ?_
      refine gV0U0 (pc' := 48) hX dX4_nextSum_45 ml_X4_108 gc_X4 hM.1.h0 hM.1.hk (c_m_takeM hM) (Nat.le_of_ble_eq_true rfl) (by decide) rfl (fun w45 q45 => ?_)
      obtain ⟨hM, hW1, hC⟩ := q45
      have hW := hW.tr (hW1.wk (fun a i z => show zB mo a i by unfold zT at z; unfold zB; omega))
      have hlen := pm_len n.toNat (by omega)
      have hfl := fc_le n.toNat (by omega)
      have hcB := hM.cB2
      refine g_aload_n (pc' := 49) hX dX4_nextSum_48 rfl rfl ?_
      refine gV0U0 (pc' := 52) hX dX4_nextSum_49 ml_X4_95 gc_X4 hM.1.h0 hM.1.hk (c_m_begin hM.1) (Nat.le_of_ble_eq_true rfl) (by decide) rfl (fun w49 q49 => ?_)
      obtain ⟨hI1, hWn, hP⟩ := q49
      have hM := hM.fr hWn (fun a i z => by unfold zP at z; unfold zZ; omega)
      have hW := hW.tr (hWn.wk (fun a i z => show zB mo a i by unfold zP at z; unfold zB; omega))
      have hC : ∀ i j : Int, 0 ≤ i → i < n → 0 ≤ j → j < n → cw w49 mo i j = tC m h i j := fun i j i0 i1 j0 j1 => by rw [cw_fr hWn (by unfold zP; omega)]; exact hC i j i0 i1 j0 j1
      have hP := hP.cg (τ := List.range n.toNat) (by simp; omega) (fun k hk => by simp at hk; rw [range_getD (by omega), range_getD (by omega)])
      refine g_iconst (pc' := 53) hX dX4_nextSum_52 rfl ?_
      refine g_istore_n_3 (pc' := 54) hX dX4_nextSum_53 (by decide) rfl rfl ?_
      have loop : ∀ (f : Nat) (idx : Nat) (u : Wd) (x4 x5 x6 : Nat × Int), idx ≤ fc n.toNat → MM E mo n m h sn sm sh (e.k, e.ls, e.lp, cuOf e (nxP (tC m h) e.ls e.lp (pmN n.toNat) idx).2.2) u → Fr (zB mo) w31 u → (∀ i j : Int, 0 ≤ i → i < n → 0 ≤ j → j < n → cw u mo i j = tC m h i j) → (∀ σ, (pmN n.toNat)[idx]? = some σ → PA u (mo + 7) σ) → fc n.toNat < idx + f → GG X 0 0 u 54 [(1, mo), (0, (nxP (tC m h) e.ls e.lp (pmN n.toNat) idx).1), (0, (nxP (tC m h) e.ls e.lp (pmN n.toNat) idx).2.1), (0, (idx : Int)), x4, x5, x6] [] := by
        intro f
        induction f with
        | zero => intro idx u x4 x5 x6 hk hM hW hC hA hf; exact absurd hf (by omega)
        | succ f ih =>
          intro idx u x4 x5 x6 hk hM hW hC hA hf
          refine g_iload_n (pc' := 55) hX dX4_nextSum_54 rfl rfl ?_
          refine g_aload_n (pc' := 56) hX dX4_nextSum_55 rfl rfl ?_
          refine gf_X4_7 (pc' := 59) hX dX4_nextSum_56 hM.1.h0 hM.1.hk rfl ?_
          rw [hM.1.vn]
          refine gS1E0 (pc' := 62) hX dX4_nextSum_59 ml_X4_67 (c_m_factorial (by omega) (by omega)) (Nat.le_of_ble_eq_true rfl) (by decide) rfl ?_
          refine g_icmp_ge (pc' := 65) (tgt := 170) hX dX4_nextSum_62 (by decide) rfl (by omega) (by omega) (fun h62 => ?_) (fun h62 => ?_)
          · skip
            refine g_aload_n (pc' := 171) hX dX4_nextSum_170 rfl rfl ?_
            refine g_iload_n (pc' := 172) hX dX4_nextSum_171 rfl rfl ?_
            refine pf_X4_172 (pc' := 175) hX dX4_nextSum_172 hM.1.hb hM.1.hk rfl ?_
            skip
            refine g_aload_n (pc' := 176) hX dX4_nextSum_175 rfl rfl ?_
            refine g_iload_n (pc' := 177) hX dX4_nextSum_176 rfl rfl ?_
            refine pf_X4_175 (pc' := 180) hX dX4_nextSum_177 hM.1.hb hM.1.hk rfl ?_
            skip
            refine g_aload_n (pc' := 181) hX dX4_nextSum_180 rfl rfl ?_
            refine g_dup (pc' := 182) hX dX4_nextSum_181 (vR_cat _) rfl ?_
            have h18 : rdw (upw (upw u mo 19 (nxP (tC m h) e.ls e.lp (pmN n.toNat) idx).1) mo 20 (nxP (tC m h) e.ls e.lp (pmN n.toNat) idx).2.1) mo 18 = e.k := by rw [rd_up_ne (by omega), rd_up_ne (by omega)]; exact hM.2.2.2.2.1.1
            refine gf_X4_48 (pc' := 185) hX dX4_nextSum_182 hM.1.h0 hM.1.hk rfl ?_
            first
              | rw [h18]
              | (repeat rw [rd_up_ne (by omega)]); rw [h18]
            refine g_iconst (pc' := 186) hX dX4_nextSum_185 rfl ?_
            refine g_iadd (pc' := 187) hX dX4_nextSum_186 rfl ?_
            refine pf_X4_48 (pc' := 190) hX dX4_nextSum_187 hM.1.hb hM.1.hk rfl ?_
            have hnb := nxP_b (C := tC m h) (ls := e.ls) (lp := e.lp) (l := pmN n.toNat) (n := n.toNat) (fun τ ht => ⟨(pm_bnd (by omega) hcB τ ht).1, (pmN_mem.mp ht).1⟩) idx (by omega)
            have hF3 := ((Fr.rf (P := fun a i => a = mo ∧ 18 ≤ i ∧ i ≤ 20) (w := u)).up (a := mo) (i := 19) (x := (nxP (tC m h) e.ls e.lp (pmN n.toNat) idx).1) ⟨rfl, by omega, by omega⟩).up (a := mo) (i := 20) (x := (nxP (tC m h) e.ls e.lp (pmN n.toNat) idx).2.1) ⟨rfl, by omega, by omega⟩ |>.up (a := mo) (i := 18) (x := e.k + 1) ⟨rfl, by omega, by omega⟩
            have hM : MM E mo n m h sn sm sh (nxE e (nxP (tC m h) e.ls e.lp (pmN n.toNat) idx)) (upw (upw (upw u mo 19 (nxP (tC m h) e.ls e.lp (pmN n.toNat) idx).1) mo 20 (nxP (tC m h) e.ls e.lp (pmN n.toNat) idx).2.1) mo 18 (e.k + 1)) := ⟨hM.1.fr hF3 (fun i z => by omega), hM.2.1.fr hF3 (fun i z => by omega), hM.2.2.1.fr hF3 (fun i z => by omega) (fun i z => by omega), hM.2.2.2.1.fr hF3 (fun i z => by omega) (fun i z => by omega), ⟨rd_up_eq ⟨rfl, rfl⟩, by rw [rd_up_ne (by omega), rd_up_ne (by omega), rd_up_eq ⟨rfl, rfl⟩]; rfl, by rw [rd_up_ne (by omega), rd_up_eq ⟨rfl, rfl⟩]; rfl⟩, ⟨show (-1 : Int) ≤ e.k + 1 by omega, show e.k + 1 ≤ 5040 by omega⟩, ⟨show (-1 : Int) ≤ (nxP (tC m h) e.ls e.lp (pmN n.toNat) idx).1 by omega, hnb.1.2⟩, ⟨hnb.2.1.1, show (nxP (tC m h) e.ls e.lp (pmN n.toNat) idx).2.1 ≤ 5040 by omega⟩, fun i i0 i1 => by rw [hF3.rd _ _ (by omega)]; exact hM.2.2.2.2.2.2.2.2 i i0 i1⟩
            have hW := hW.tr (hF3.wk (fun a i z => show zB mo a i by unfold zB; omega))
            rw [show idx = fc n.toNat by omega] at hM hW ⊢
            refine g_iload_n (pc' := 191) hX dX4_nextSum_190 rfl rfl ?_
            exact g_retI hX hF dX4_nextSum_191 (mP.okB hWA hW h4 (by omega) (hM) (rfl))
          · skip
            have hidx : idx < (pmN n.toNat).length := by rw [hlen]; omega
            obtain ⟨σ, hσ⟩ : ∃ σ, (pmN n.toNat)[idx]? = some σ := ⟨_, List.getElem?_eq_getElem hidx⟩
            have hP := hA σ hσ
            obtain ⟨hσ1, hσ2, hσ3⟩ := pmN_mem.mp (List.mem_of_getElem? hσ)
            have hpb := pm_bnd (C := tC m h) (n := n.toNat) (by omega) hcB σ (List.mem_of_getElem? hσ)
            have hpc := ps_cg (C := cw u mo) (C' := tC m h) (sz := n) (fun i j i0 i1 j0 j1 => hC i j i0 i1 j0 j1) (σ := σ) (i := 0) (by omega) (by omega) (fun x hx => by have := hσ3 x hx; omega)
            have hsum := c_m_sum hM.1 hP (by omega) (fun k hk => by have := hσ3 _ (getD_mem hk); omega)
            rw [hσ1, Int.toNat_of_nonneg (show 0 ≤ n by omega), hpc] at hsum
            have hgd : (pmN n.toNat).getD idx [] = σ := by rw [List.getD_eq_getElem?_getD, hσ]; rfl
            have hnb := nxP_b (C := tC m h) (ls := e.ls) (lp := e.lp) (l := pmN n.toNat) (n := n.toNat) (fun τ ht => ⟨(pm_bnd (by omega) hcB τ ht).1, (pmN_mem.mp ht).1⟩) idx (by omega)
            have hels : -1 ≤ e.ls ∧ e.ls ≤ 1000000 := hM.2.2.2.2.2.2.1
            have help : 0 ≤ e.lp ∧ e.lp ≤ 5040 := hM.2.2.2.2.2.2.2.1
            have hnx : (nxP (tC m h) e.ls e.lp (pmN n.toNat) (idx + 1)) = if (e.ls < ps (tC m h) 0 σ ∨ (ps (tC m h) 0 σ = e.ls ∧ e.lp < (idx : Int))) ∧ ps (tC m h) 0 σ < (nxP (tC m h) e.ls e.lp (pmN n.toNat) idx).1 then (ps (tC m h) 0 σ, (idx : Int), σ) else (nxP (tC m h) e.ls e.lp (pmN n.toNat) idx) := by rw [nxP, hgd]
            have c156 : ∀ (u : Wd) (p : Int × Int × List Nat) (x5 x6 : Nat × Int), p = (nxP (tC m h) e.ls e.lp (pmN n.toNat) (idx + 1)) → MM E mo n m h sn sm sh (e.k, e.ls, e.lp, cuOf e p.2.2) u → Fr (zB mo) w31 u → (∀ i j : Int, 0 ≤ i → i < n → 0 ≤ j → j < n → cw u mo i j = tC m h i j) → PA u (mo + 7) σ → GG X 0 0 u 156 [(1, mo), (0, p.1), (0, p.2.1), (0, (idx : Int)), (0, ps (tC m h) 0 σ), x5, x6] [] := by
              intro u p x5 x6 hp hM hW hC hP
              refine g_aload_n (pc' := 157) hX dX4_nextSum_156 rfl rfl ?_
              refine g_aload_n (pc' := 158) hX dX4_nextSum_157 rfl rfl ?_
              refine gf_X4_7 (pc' := 161) hX dX4_nextSum_158 hM.1.h0 hM.1.hk rfl ?_
              rw [hM.1.vn]
              have hgo := c_m_goOn hM.1 hP (by omega) (by omega) (fun k hk => by have := hσ3 _ (getD_mem hk); omega)
              rw [hσ1, Int.toNat_of_nonneg (show 0 ≤ n by omega)] at hgo
              refine gV1U0 (pc' := 164) hX dX4_nextSum_161 ml_X4_104 gc_X4 hM.1.h0 hM.1.hk hgo (Nat.le_of_ble_eq_true rfl) (by decide) rfl (fun w161 q161 => ?_)
              obtain ⟨hI1, hWn, hP⟩ := q161
              have hM := hM.fr hWn (fun a i z => by unfold zP at z; unfold zZ; omega)
              have hW := hW.tr (hWn.wk (fun a i z => show zB mo a i by unfold zP at z; unfold zB; omega))
              have hC : ∀ i j : Int, 0 ≤ i → i < n → 0 ≤ j → j < n → cw w161 mo i j = tC m h i j := fun i j i0 i1 j0 j1 => by rw [cw_fr hWn (by unfold zP; omega)]; exact hC i j i0 i1 j0 j1
              refine g_iinc_3 (pc' := 167) hX dX4_nextSum_164 (by decide) rfl rfl ?_
              refine g_goto (tgt := 54) hX dX4_nextSum_167 (by decide) ?_
              rw [hp] at hM ⊢
              exact ih (idx + 1) _ _ _ _ (by omega) hM hW hC (fun τ hτ => by rw [← nchk_at (nchk_ok n.toNat (by omega)) hσ hτ]; exact hP) (by omega)
            have c119 : ∀ v5 : Int, (e.ls < ps (tC m h) 0 σ ∨ (ps (tC m h) 0 σ = e.ls ∧ e.lp < (idx : Int))) → ps (tC m h) 0 σ < (nxP (tC m h) e.ls e.lp (pmN n.toNat) idx).1 → GG X 0 0 u 119 [(1, mo), (0, (nxP (tC m h) e.ls e.lp (pmN n.toNat) idx).1), (0, (nxP (tC m h) e.ls e.lp (pmN n.toNat) idx).2.1), (0, (idx : Int)), (0, ps (tC m h) 0 σ), (0, v5), x6] [] := by
              intro v5 hla hbe
              refine g_iload (pc' := 121) hX dX4_nextSum_119 rfl rfl ?_
              refine g_istore_n_1 (pc' := 122) hX dX4_nextSum_121 (by decide) rfl rfl ?_
              refine g_iload_n (pc' := 123) hX dX4_nextSum_122 rfl rfl ?_
              refine g_istore_n_2 (pc' := 124) hX dX4_nextSum_123 (by decide) rfl rfl ?_
              refine g_iconst (pc' := 125) hX dX4_nextSum_124 rfl ?_
              refine g_istore_6 (pc' := 127) hX dX4_nextSum_125 (by decide) rfl rfl ?_
              have hMo := hM
              have loop2 : ∀ (g : Nat) (j : Int) (u2 : Wd) (cu : Int → Int), 0 ≤ j → j ≤ n → MM E mo n m h sn sm sh (e.k, e.ls, e.lp, cu) u2 → Fr (zB mo) w31 u2 → Fr (fun a _ => a = mo + 9) u u2 → (∀ i : Int, 0 ≤ i → i < 7 → cu i = if i < j then ((σ.getD i.toNat 0 : Nat) : Int) else cuOf e (nxP (tC m h) e.ls e.lp (pmN n.toNat) idx).2.2 i) → n < j + g → GG X 0 0 u2 127 [(1, mo), (0, ps (tC m h) 0 σ), (0, (idx : Int)), (0, (idx : Int)), (0, ps (tC m h) 0 σ), (0, v5), (0, j)] [] := by
                intro g
                induction g with
                | zero => intro j u2 cu _ _ _ _ _ _ hg; exact absurd hg (by omega)
                | succ g ih2 =>
                  intro j u2 cu j0 j1 hM hW hO hB hg
                  have hsj := fun hj : j.toNat < σ.length => hσ3 _ (getD_mem hj)
                  refine g_iload (pc' := 129) hX dX4_nextSum_127 rfl rfl ?_
                  refine g_aload_n (pc' := 130) hX dX4_nextSum_129 rfl rfl ?_
                  refine gf_X4_7 (pc' := 133) hX dX4_nextSum_130 hM.1.h0 hM.1.hk rfl ?_
                  rw [hM.1.vn]
                  refine g_icmp_ge (pc' := 136) (tgt := 156) hX dX4_nextSum_133 (by decide) rfl (by omega) (by omega) (fun h133 => ?_) (fun h133 => ?_)
                  · skip
                    exact c156 u2 (ps (tC m h) 0 σ, (idx : Int), σ) _ _ (by rw [hnx, if_pos ⟨by omega, by omega⟩]) (hM.ecg (fun i i0 i1 => by
                      rw [hB i i0 i1]
                      have := hnb.2.2
                      unfold cuOf
                      (try simp only [])
                      (repeat' split) <;> first | rfl | omega)) hW (fun a b a0 a1 b0 b1 => by rw [cw_fr hO (by omega)]; exact hC a b a0 a1 b0 b1) (hP.fr hO (fun i => by omega))
                    skip
                  · skip
                    refine g_aload_n (pc' := 137) hX dX4_nextSum_136 rfl rfl ?_
                    refine gf_X4_51 (pc' := 140) hX dX4_nextSum_137 hM.1.h0 hM.1.hk rfl ?_
                    rw [hM.1.f 21 (by decide) (show moF 21 = 9 by decide)]
                    refine g_iload (pc' := 142) hX dX4_nextSum_140 rfl rfl ?_
                    refine g_aload_n (pc' := 143) hX dX4_nextSum_142 rfl rfl ?_
                    refine gf_X4_42 (pc' := 146) hX dX4_nextSum_143 hM.1.h0 hM.1.hk rfl ?_
                    rw [hM.1.f 11 (by decide) (show moF 11 = 7 by decide)]
                    refine g_iload (pc' := 148) hX dX4_nextSum_146 rfl rfl ?_
                    refine g_ialdL (pc' := 149) hX dX4_nextSum_148 (by have := hM.1.h0; omega) (hM.1.k 7 (by decide) (show moK 7 = 50 by decide)) (hM.1.l 7 (by decide) (show moN 7 = 7 by decide)) (by omega) rfl ?_
                    rw [show rdw u2 (mo + 7) j = ((σ.getD j.toNat 0 : Nat) : Int) from (hO.rd _ _ (by omega)).trans (hP j (by omega) (by omega))]
                    have hsj := hsj (by omega)
                    refine g_iastL (pc' := 150) hX dX4_nextSum_149 (by have := hM.1.hb; omega) (hM.1.k 9 (by decide) (show moK 9 = 50 by decide)) (hM.1.l 9 (by decide) (show moN 9 = 7 by decide)) (by omega) rfl ?_
                    refine hM.stC hW (by omega) (by unfold zB; omega) (fun hM hW => ?_)
                    refine g_iinc_6 (pc' := 153) hX dX4_nextSum_150 (by decide) rfl rfl ?_
                    refine g_goto (tgt := 127) hX dX4_nextSum_153 (by decide) ?_
                    exact ih2 (j + 1) _ _ (by omega) (by omega) hM hW (hO.up rfl) (fun i i0 i1 => by
                      (try simp only [])
                      by_cases hi : i = j
                      · rw [if_pos hi, if_pos (by omega), hi]
                      · rw [if_neg hi, hB i i0 i1]; (repeat' split) <;> first | rfl | omega) (by omega)
              exact loop2 8 0 u _ (by omega) (by omega) hM hW Fr.rf (fun i i0 i1 => by rw [if_neg (by omega)]) (by omega)
            refine g_aload_n (pc' := 66) hX dX4_nextSum_65 rfl rfl ?_
            refine g_aload_n (pc' := 67) hX dX4_nextSum_66 rfl rfl ?_
            refine gf_X4_7 (pc' := 70) hX dX4_nextSum_67 hM.1.h0 hM.1.hk rfl ?_
            rw [hM.1.vn]
            refine gV1E0 (pc' := 73) hX dX4_nextSum_70 ml_X4_98 gc_X4 hM.1.h0 hM.1.hk hsum (Nat.le_of_ble_eq_true rfl) (by decide) rfl ?_
            refine g_istore_4 (pc' := 75) hX dX4_nextSum_73 (by decide) rfl rfl ?_
            refine g_iload (pc' := 77) hX dX4_nextSum_75 rfl rfl ?_
            refine g_aload_n (pc' := 78) hX dX4_nextSum_77 rfl rfl ?_
            refine gf_X4_172 (pc' := 81) hX dX4_nextSum_78 hM.1.h0 hM.1.hk rfl ?_
            rw [show rdw u mo 19 = e.ls from hM.2.2.2.2.1.2.1]
            refine g_icmp_gt (pc' := 84) (tgt := 101) hX dX4_nextSum_81 (by decide) rfl (by omega) (by omega) (fun h81 => ?_) (fun h81 => ?_)
            · skip
              refine g_iconst (pc' := 102) hX dX4_nextSum_101 rfl ?_
              refine g_goto (tgt := 106) hX dX4_nextSum_102 (by decide) ?_
              refine g_istore_5 (pc' := 108) hX dX4_nextSum_106 (by decide) rfl rfl ?_
              refine g_iload (pc' := 110) hX dX4_nextSum_108 rfl rfl ?_
              refine g_if_eq (pc' := 113) (tgt := 156) hX dX4_nextSum_110 (by decide) rfl (by omega) (fun h110 => absurd h110 (by omega)) (fun h110 => ?_)
              refine g_iload (pc' := 115) hX dX4_nextSum_113 rfl rfl ?_
              refine g_iload_n (pc' := 116) hX dX4_nextSum_115 rfl rfl ?_
              refine g_icmp_ge (pc' := 119) (tgt := 156) hX dX4_nextSum_116 (by decide) rfl (by omega) (by omega) (fun h116 => ?_) (fun h116 => ?_)
              · skip
                exact c156 u (nxP (tC m h) e.ls e.lp (pmN n.toNat) idx) _ _ (by rw [hnx, if_neg (fun z => by omega)]) hM hW hC hP
              · skip
                exact c119 _ (by omega) (by omega)
            · skip
              refine g_iload (pc' := 86) hX dX4_nextSum_84 rfl rfl ?_
              refine g_aload_n (pc' := 87) hX dX4_nextSum_86 rfl rfl ?_
              refine gf_X4_172 (pc' := 90) hX dX4_nextSum_87 hM.1.h0 hM.1.hk rfl ?_
              rw [show rdw u mo 19 = e.ls from hM.2.2.2.2.1.2.1]
              refine g_icmp_ne (pc' := 93) (tgt := 105) hX dX4_nextSum_90 (by decide) rfl (by omega) (by omega) (fun h90 => ?_) (fun h90 => ?_)
              · skip
                refine g_iconst (pc' := 106) hX dX4_nextSum_105 rfl ?_
                refine g_istore_5 (pc' := 108) hX dX4_nextSum_106 (by decide) rfl rfl ?_
                refine g_iload (pc' := 110) hX dX4_nextSum_108 rfl rfl ?_
                refine g_if_eq (pc' := 113) (tgt := 156) hX dX4_nextSum_110 (by decide) rfl (by omega) (fun h110 => ?_) (fun h110 => absurd h110 (by omega))
                exact c156 u (nxP (tC m h) e.ls e.lp (pmN n.toNat) idx) _ _ (by rw [hnx, if_neg (fun z => by omega)]) hM hW hC hP
              · skip
                refine g_iload_n (pc' := 94) hX dX4_nextSum_93 rfl rfl ?_
                refine g_aload_n (pc' := 95) hX dX4_nextSum_94 rfl rfl ?_
                refine gf_X4_175 (pc' := 98) hX dX4_nextSum_95 hM.1.h0 hM.1.hk rfl ?_
                rw [show rdw u mo 20 = e.lp from hM.2.2.2.2.1.2.2]
                refine g_icmp_le (pc' := 101) (tgt := 105) hX dX4_nextSum_98 (by decide) rfl (by omega) (by omega) (fun h98 => ?_) (fun h98 => ?_)
                · skip
                  refine g_iconst (pc' := 106) hX dX4_nextSum_105 rfl ?_
                  refine g_istore_5 (pc' := 108) hX dX4_nextSum_106 (by decide) rfl rfl ?_
                  refine g_iload (pc' := 110) hX dX4_nextSum_108 rfl rfl ?_
                  refine g_if_eq (pc' := 113) (tgt := 156) hX dX4_nextSum_110 (by decide) rfl (by omega) (fun h110 => ?_) (fun h110 => absurd h110 (by omega))
                  exact c156 u (nxP (tC m h) e.ls e.lp (pmN n.toNat) idx) _ _ (by rw [hnx, if_neg (fun z => by omega)]) hM hW hC hP
                · skip
                  refine g_iconst (pc' := 102) hX dX4_nextSum_101 rfl ?_
                  refine g_goto (tgt := 106) hX dX4_nextSum_102 (by decide) ?_
                  refine g_istore_5 (pc' := 108) hX dX4_nextSum_106 (by decide) rfl rfl ?_
                  refine g_iload (pc' := 110) hX dX4_nextSum_108 rfl rfl ?_
                  refine g_if_eq (pc' := 113) (tgt := 156) hX dX4_nextSum_110 (by decide) rfl (by omega) (fun h110 => absurd h110 (by omega)) (fun h110 => ?_)
                  refine g_iload (pc' := 115) hX dX4_nextSum_113 rfl rfl ?_
                  refine g_iload_n (pc' := 116) hX dX4_nextSum_115 rfl rfl ?_
                  refine g_icmp_ge (pc' := 119) (tgt := 156) hX dX4_nextSum_116 (by decide) rfl (by omega) (by omega) (fun h116 => ?_) (fun h116 => ?_)
                  · skip
                    exact c156 u (nxP (tC m h) e.ls e.lp (pmN n.toNat) idx) _ _ (by rw [hnx, if_neg (fun z => by omega)]) hM hW hC hP
                  · skip
                    exact c119 _ (by omega) (by omega)
      exact loop (fc n.toNat + 1) 0 _ _ _ _ (by omega) (hM.ecg (fun i i0 i1 => by unfold cuOf; rw [if_neg (by simp [nxP]; omega)])) hW hC (fun σ hσ => by
        have h := pm_first n.toNat (by omega)
        rw [List.head?_eq_getElem?] at h
        cases h.symm.trans hσ
        exact hP) (by omega)
    · skip
      refine g_iconst (pc' := 27) hX dX4_nextSum_26 rfl ?_
      refine g_goto (tgt := 31) hX dX4_nextSum_27 (by decide) ?_
      refine gV1I0 (pc' := 34) hX dX4_nextSum_31 ml_X4_118 gc_X4 hM.1.h0 hM.1.hk (c_m_wrong hM (by omega)) (Nat.le_of_ble_eq_true rfl) (by decide) rfl (fun r31 w31 q31 => ?_)
      obtain ⟨hM, hWA, hR, h4, hr31⟩ := q31
      have hI := hM.1
      have hW : Fr (zB mo) w31 w31 := Fr.rf
      have e0 : r31 = 1 := by omega
      subst e0
      clear hr31
      have hek := hM.2.2.2.2.2.1
      refine g_if_eq (pc' := 37) (tgt := 39) hX dX4_nextSum_34 (by decide) rfl (by omega) (fun h34 => absurd h34 (by omega)) (fun h34 => ?_)
      refine g_iconst (pc' := 38) hX dX4_nextSum_37 rfl ?_
      exact g_retI hX hF dX4_nextSum_38 (mP.bad hWA h4 (by omega) (by omega) hM)
  · skip
    refine g_iconst (pc' := 9) hX dX4_nextSum_8 rfl ?_
    refine g_goto (tgt := 31) hX dX4_nextSum_9 (by decide) ?_
    refine gV1I0 (pc' := 34) hX dX4_nextSum_31 ml_X4_118 gc_X4 hM.1.h0 hM.1.hk (c_m_wrong hM (by omega)) (Nat.le_of_ble_eq_true rfl) (by decide) rfl (fun r31 w31 q31 => ?_)
    obtain ⟨hM, hWA, hR, h4, hr31⟩ := q31
    have hI := hM.1
    have hW : Fr (zB mo) w31 w31 := Fr.rf
    have e0 : r31 = 1 := by omega
    subst e0
    clear hr31
    have hek := hM.2.2.2.2.2.1
    refine g_if_eq (pc' := 37) (tgt := 39) hX dX4_nextSum_34 (by decide) rfl (by omega) (fun h34 => absurd h34 (by omega)) (fun h34 => ?_)
    refine g_iconst (pc' := 38) hX dX4_nextSum_37 rfl ?_
    exact g_retI hX hF dX4_nextSum_38 (mP.bad hWA h4 (by omega) (by omega) hM)

theorem c_mo_sumOf {a : Int} (hM : MM E mo n m h sn sm sh e w) (ba : -2147483648 ≤ a ∧ a ≤ 2147483647)  : Call E mX4_sumOf 2 0 0 [vR mo, vI a] w (qI (mP mo w (if (soF n m h n.toNat a 0 0).1 = 0 then 0 else 1) ((soF n m h n.toNat a 0 0).2) (fun w' => MM E mo n m h sn sm sh e w') (fun w' => MM E mo n m h sn sm sh e w'))) := by
  refine call_of (av := [(1, mo), (0, a)]) (by decide +kernel) rfl (Nat.le_of_ble_eq_true rfl) ?_
  intro X hX hF hname
  show GG X 0 0 w 0 [(1, mo), (0, a), (9, 0), (9, 0), (9, 0), (9, 0), (9, 0)] []
  have hb := hM.1.b
  have hsb := hM.2.1.2
  skip
  have c87 : ∀ (l s ac : Int) (x5 x6 : Nat × Int), (-2147483648 ≤ l ∧ l ≤ 2147483647) → (l = 0 ↔ (soF n m h n.toNat a 0 0).1 = 0) → (l = 0 → ac = (soF n m h n.toNat a 0 0).2) → GG X 0 0 w 87 [(1, mo), (0, a), (0, l), (0, s), (0, ac), x5, x6] [] := by
    intro l s ac x5 x6 hl1 hl2 hl3
    refine g_aload_n (pc' := 88) hX dX4_sumOf_87 rfl rfl ?_
    refine g_iload_n (pc' := 89) hX dX4_sumOf_88 rfl rfl ?_
    refine g_if_eq (pc' := 92) (tgt := 96) hX dX4_sumOf_89 (by decide) rfl (by omega) (fun h89 => ?_) (fun h89 => ?_)
    · skip
      refine g_iconst (pc' := 97) hX dX4_sumOf_96 rfl ?_
      refine gV1I0 (pc' := 100) hX dX4_sumOf_97 ml_X4_118 gc_X4 hM.1.h0 hM.1.hk (c_m_wrong hM (by omega)) (Nat.le_of_ble_eq_true rfl) (by decide) rfl (fun r97 w97 q97 => ?_)
      obtain ⟨hM, hWA, hR, h4, hr97⟩ := q97
      have hI := hM.1
      have hW : Fr (zB mo) w97 w97 := Fr.rf
      have e0 : r97 = 0 := by omega
      subst e0
      clear hr97
      skip
      refine g_if_eq (pc' := 103) (tgt := 107) hX dX4_sumOf_100 (by decide) rfl (by omega) (fun h100 => ?_) (fun h100 => absurd h100 (by omega))
      refine g_iload (pc' := 109) hX dX4_sumOf_107 rfl rfl ?_
      exact g_retI hX hF dX4_sumOf_109 (mP.okB hWA hW h4 (by omega) (hM) (hl3 (by omega)))
    · skip
      refine g_iconst (pc' := 93) hX dX4_sumOf_92 rfl ?_
      refine g_goto (tgt := 97) hX dX4_sumOf_93 (by decide) ?_
      refine gV1I0 (pc' := 100) hX dX4_sumOf_97 ml_X4_118 gc_X4 hM.1.h0 hM.1.hk (c_m_wrong hM (by omega)) (Nat.le_of_ble_eq_true rfl) (by decide) rfl (fun r97 w97 q97 => ?_)
      obtain ⟨hM, hWA, hR, h4, hr97⟩ := q97
      have hI := hM.1
      have hW : Fr (zB mo) w97 w97 := Fr.rf
      have e0 : r97 = 1 := by omega
      subst e0
      clear hr97
      skip
      refine g_if_eq (pc' := 103) (tgt := 107) hX dX4_sumOf_100 (by decide) rfl (by omega) (fun h100 => absurd h100 (by omega)) (fun h100 => ?_)
      refine g_iconst (pc' := 104) hX dX4_sumOf_103 rfl ?_
      refine g_goto (tgt := 109) hX dX4_sumOf_104 (by decide) ?_
      exact g_retI hX hF dX4_sumOf_109 (mP.bad hWA h4 (by omega) (by omega) hM)
  refine g_iload_n (pc' := 1) hX dX4_sumOf_0 rfl rfl ?_
  refine g_istore_n_2 (pc' := 2) hX dX4_sumOf_1 (by decide) rfl rfl ?_
  refine g_iconst (pc' := 3) hX dX4_sumOf_2 rfl ?_
  refine g_istore_n_3 (pc' := 4) hX dX4_sumOf_3 (by decide) rfl rfl ?_
  refine g_iconst (pc' := 5) hX dX4_sumOf_4 rfl ?_
  refine g_istore_4 (pc' := 7) hX dX4_sumOf_5 (by decide) rfl rfl ?_
  refine g_aload_n (pc' := 8) hX dX4_sumOf_7 rfl rfl ?_
  refine gf_X4_7 (pc' := 11) hX dX4_sumOf_8 hM.1.h0 hM.1.hk rfl ?_
  rw [hM.1.vn]
  refine g_iconst (pc' := 12) hX dX4_sumOf_11 rfl ?_
  refine g_isub (pc' := 13) hX dX4_sumOf_12 rfl ?_
  refine g_istore_5 (pc' := 15) hX dX4_sumOf_13 (by decide) rfl rfl ?_
  have loop : ∀ (f : Nat) (k s : Nat) (l ac : Int) (x6 : Nat × Int), (k : Int) ≤ n → s < 128 → (-2147483648 ≤ l ∧ l ≤ 2147483647) → soF n m h k l s ac = soF n m h n.toNat a 0 0 → k < f → GG X 0 0 w 15 [(1, mo), (0, a), (0, l), (0, (s : Int)), (0, ac), (0, (k : Int) - 1), x6] [] := by
    intro f
    induction f with
    | zero => intro k s l ac x6 hk hs hl hso hf; exact absurd hf (by omega)
    | succ f ih =>
      intro k s l ac x6 hk hs hl hso hf
      refine g_iload (pc' := 17) hX dX4_sumOf_15 rfl rfl ?_
      refine g_if_lt (pc' := 20) (tgt := 87) hX dX4_sumOf_17 (by decide) rfl (by omega) (fun h17 => ?_) (fun h17 => ?_)
      · skip
        exact c87 _ _ _ _ _ hl (by rw [← hso, show k = 0 by omega]; exact Iff.rfl) (fun _ => by rw [← hso, show k = 0 by omega]; rfl)
        skip
      · skip
        have hsk : soF n m h k l s ac = if (0 ≤ l.tmod 10 - 1 ∧ l.tmod 10 - 1 ≤ n - 1) ∧ s >>> (l.tmod 10 - 1).toNat % 2 = 0 then soF n m h (k - 1) (l.tdiv 10) (s ||| 1 <<< (l.tmod 10 - 1).toNat) (ac + tC m h ((k - 1 : Nat) : Int) (l.tmod 10 - 1)) else (-1, ac) := by
          rw [show k = (k - 1) + 1 by omega]; rfl
        have htm := Int.tmod_lt_of_pos l (show (0 : Int) < 10 by omega)
        have htm2 : -10 < l.tmod 10 := Int.lt_tmod_of_pos l (by omega)
        refine g_iload_n (pc' := 21) hX dX4_sumOf_20 rfl rfl ?_
        refine g_bipush (pc' := 23) hX dX4_sumOf_21 rfl rfl ?_
        refine g_iremT (pc' := 24) hX dX4_sumOf_23 (by omega) (by omega) rfl ?_
        refine g_iconst (pc' := 25) hX dX4_sumOf_24 rfl ?_
        refine g_isub (pc' := 26) hX dX4_sumOf_25 rfl ?_
        refine g_istore_6 (pc' := 28) hX dX4_sumOf_26 (by decide) rfl rfl ?_
        refine g_iload_n (pc' := 29) hX dX4_sumOf_28 rfl rfl ?_
        refine g_bipush (pc' := 31) hX dX4_sumOf_29 rfl rfl ?_
        refine g_idivT (pc' := 32) hX dX4_sumOf_31 (by omega) (by omega) rfl ?_
        refine g_istore_n_2 (pc' := 33) hX dX4_sumOf_32 (by decide) rfl rfl ?_
        refine g_aload_n (pc' := 34) hX dX4_sumOf_33 rfl rfl ?_
        refine g_iload (pc' := 36) hX dX4_sumOf_34 rfl rfl ?_
        refine gV1E0 (pc' := 39) hX dX4_sumOf_36 ml_X4_122 gc_X4 hM.1.h0 hM.1.hk (c_m_isRow hM.1 (by omega)) (Nat.le_of_ble_eq_true rfl) (by decide) rfl ?_
        refine g_if_eq (pc' := 42) (tgt := 52) hX dX4_sumOf_39 (by decide) rfl (by omega) (fun h39 => ?_) (fun h39 => ?_)
        · skip
          refine g_iconst (pc' := 53) hX dX4_sumOf_52 rfl ?_
          refine g_istore_n_2 (pc' := 54) hX dX4_sumOf_53 (by decide) rfl rfl ?_
          refine g_iload_n (pc' := 55) hX dX4_sumOf_54 rfl rfl ?_
          refine g_if_ge (pc' := 58) (tgt := 61) hX dX4_sumOf_55 (by decide) rfl (by omega) (fun h55 => absurd h55 (by omega)) (fun h55 => ?_)
          refine g_goto (tgt := 87) hX dX4_sumOf_58 (by decide) ?_
          first
            | (exfalso; omega)
            | exact c87 _ _ _ _ _ (by omega) (by rw [← hso, hsk, if_neg (fun z => by omega)]; (try simp)) (fun z => absurd z (by omega))
        · skip
          have htp := tm_pos (l := l) (by omega)
          have hb1 := b_shr_lt s hs (l.tmod 10 - 1).toNat (by omega)
          have hbo := b_or_lt s hs (l.tmod 10 - 1).toNat (by omega)
          have hdv := Int.tdiv_eq_ediv_of_nonneg (a := l) (b := 10) (by omega)
          refine g_iload_n (pc' := 43) hX dX4_sumOf_42 rfl rfl ?_
          refine g_iload (pc' := 45) hX dX4_sumOf_43 rfl rfl ?_
          refine g_ishr (pc' := 46) ((s >>> (l.tmod 10 - 1).toNat : Nat)) hX dX4_sumOf_45 (by have := b_shr s hs (l.tmod 10 - 1).toNat (by omega); rw [Int.toNat_of_nonneg (by omega)] at this; exact this) rfl ?_
          refine g_iconst (pc' := 47) hX dX4_sumOf_46 rfl ?_
          refine g_iand (pc' := 48) (((s >>> (l.tmod 10 - 1).toNat % 2 : Nat) : Int)) hX dX4_sumOf_47 (b_and1' hb1) rfl ?_
          refine g_iconst (pc' := 49) hX dX4_sumOf_48 rfl ?_
          refine g_icmp_ne (pc' := 52) (tgt := 54) hX dX4_sumOf_49 (by decide) rfl (by omega) (by omega) (fun h49 => ?_) (fun h49 => ?_)
          · skip
            have hbt : s >>> (l.tmod 10 - 1).toNat % 2 = 0 := by omega
            refine g_iload_n (pc' := 55) hX dX4_sumOf_54 rfl rfl ?_
            refine g_if_ge (pc' := 58) (tgt := 61) hX dX4_sumOf_55 (by decide) rfl (by omega) (fun h55 => ?_) (fun h55 => ?_)
            · skip
              refine g_iload_n (pc' := 62) hX dX4_sumOf_61 rfl rfl ?_
              refine g_iconst (pc' := 63) hX dX4_sumOf_62 rfl ?_
              refine g_iload (pc' := 65) hX dX4_sumOf_63 rfl rfl ?_
              refine g_ishl (pc' := 66) ((1 <<< (l.tmod 10 - 1).toNat : Nat)) hX dX4_sumOf_65 (by have := b_shl1 (l.tmod 10 - 1).toNat (by omega); rw [Int.toNat_of_nonneg (by omega)] at this; exact this) rfl ?_
              refine g_ior (pc' := 67) ((s ||| 1 <<< (l.tmod 10 - 1).toNat : Nat)) hX dX4_sumOf_66 (b_or s hs (l.tmod 10 - 1).toNat (by omega)) rfl ?_
              refine g_istore_n_3 (pc' := 68) hX dX4_sumOf_67 (by decide) rfl rfl ?_
              refine g_iload (pc' := 70) hX dX4_sumOf_68 rfl rfl ?_
              refine g_aload_n (pc' := 71) hX dX4_sumOf_70 rfl rfl ?_
              refine g_iload (pc' := 73) hX dX4_sumOf_71 rfl rfl ?_
              refine g_iload (pc' := 75) hX dX4_sumOf_73 rfl rfl ?_
              refine gV2E0 (pc' := 78) hX dX4_sumOf_75 ml_X4_75 gc_X4 hM.1.h0 hM.1.hk (c_m_costT hM (by omega) (by omega)) (Nat.le_of_ble_eq_true rfl) (by decide) rfl ?_
              refine g_iadd (pc' := 79) hX dX4_sumOf_78 rfl ?_
              refine g_istore_4 (pc' := 81) hX dX4_sumOf_79 (by decide) rfl rfl ?_
              refine g_iinc_5 (pc' := 84) hX dX4_sumOf_81 (by decide) rfl rfl ?_
              refine g_goto (tgt := 15) hX dX4_sumOf_84 (by decide) ?_
              rw [show ((k : Int) - 1 + -1) = ((k - 1 : Nat) : Int) - 1 by omega]
              exact ih (k - 1) _ _ _ _ (by omega) hbo (by have h1 := Int.tdiv_eq_ediv_of_nonneg (a := l) (b := 10) (by omega); rw [h1]; omega) (by
                rw [← hso, hsk, if_pos ⟨by omega, hbt⟩, show ((k - 1 : Nat) : Int) = (k : Int) - 1 by omega]) (by omega)
            · skip
              refine g_goto (tgt := 87) hX dX4_sumOf_58 (by decide) ?_
              first
                | (exfalso; omega)
                | exact c87 _ _ _ _ _ (by omega) (by rw [← hso, hsk, if_neg (fun z => by omega)]; (try simp)) (fun z => absurd z (by omega))
          · skip
            refine g_iconst (pc' := 53) hX dX4_sumOf_52 rfl ?_
            refine g_istore_n_2 (pc' := 54) hX dX4_sumOf_53 (by decide) rfl rfl ?_
            refine g_iload_n (pc' := 55) hX dX4_sumOf_54 rfl rfl ?_
            refine g_if_ge (pc' := 58) (tgt := 61) hX dX4_sumOf_55 (by decide) rfl (by omega) (fun h55 => absurd h55 (by omega)) (fun h55 => ?_)
            refine g_goto (tgt := 87) hX dX4_sumOf_58 (by decide) ?_
            first
              | (exfalso; omega)
              | exact c87 _ _ _ _ _ (by omega) (by rw [← hso, hsk, if_neg (fun z => by omega)]; (try simp)) (fun z => absurd z (by omega))
  have ex := loop 8 n.toNat 0 a 0 (9, 0) (by omega) (by omega) (by omega) rfl (by omega)
  rw [show ((n.toNat : Nat) : Int) = n by omega] at ex
  exact ex

end M11
