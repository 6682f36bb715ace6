/-! MODEL: the constructor (by gen/spec_m13.py) -/
set_option maxRecDepth 100000
set_option maxHeartbeats 4000000
/-- under construction: k arrays made, fields F -/
def INm (E : Ev) (mo : Int) (w0 : Wd) (k : Nat) (F : Int → Int) (u : Wd) : Prop :=
  (szw u = mo + 1 + k ∧ (eB E : Int) ≤ mo ∧ kdw u mo = 2) ∧ (∀ f, rdw u mo f = F f) ∧
  (∀ j : Int, 1 ≤ j → j ≤ k → kdw u (mo + j) = moK j ∧ lnw u (mo + j) = moN j ∧ ∀ i, rdw u (mo + j) i = 0) ∧
  (∀ b, b < mo → kdw u b = kdw w0 b ∧ lnw u b = lnw w0 b ∧ ∀ i, rdw u b i = rdw w0 b i)
section INS
variable {E : Ev} {mo : Int} {w0 u : Wd} {k : Nat} {F : Int → Int} {X : Cx} {bc bs pc : Nat} {lv : List (Nat × Int)} {st : List Value}
theorem INm.stp {f v : Int} (H : INm E mo w0 k F u) (K : ∀ u', INm E mo w0 k (fun j => if j = f then v else F j) u' → GG X bc bs u' pc lv st) : GG X bc bs (upw u mo f v) pc lv st := by
  have hsz := H.1.1
  refine K _ ⟨H.1, fun g => ?_, fun j h1 h2 => ⟨(H.2.2.1 j h1 h2).1, (H.2.2.1 j h1 h2).2.1, fun i => ?_⟩, fun b hb => ⟨(H.2.2.2 b hb).1, (H.2.2.2 b hb).2.1, fun i => ?_⟩⟩
  · show _ = (if g = f then v else F g)
    by_cases hg : g = f
    · rw [rd_up_eq ⟨rfl, hg⟩, if_pos hg]
    · rw [rd_up_ne (fun z => hg z.2), if_neg hg]; exact H.2.1 g
  · rw [rd_up_ne (by omega)]; exact (H.2.2.1 j h1 h2).2.2 i
  · rw [rd_up_ne (by omega)]; exact (H.2.2.2 b hb).2.2 i
theorem INm.sta {kk : Nat} {n : Int} {g : Int → Int} (H : INm E mo w0 k F u) (h1 : moK ((k : Int) + 1) = kk) (h2 : moN ((k : Int) + 1) = n) (hg : ∀ i, g i = 0) (K : ∀ u', INm E mo w0 (k + 1) F u' → GG X bc bs u' pc lv (vR (mo + 1 + k) :: st)) : GG X bc bs (alw u kk n g) pc lv (vR (szw u) :: st) := by
  have hsz := H.1.1
  rw [hsz]
  refine K _ ⟨⟨by rw [sz_al, hsz]; omega, H.1.2.1, ?_⟩, fun f => ?_, fun j j1 j2 => ?_, fun b hb => ⟨?_, ?_, fun i => ?_⟩⟩
  · rw [kd_al, if_neg (by omega)]; exact H.1.2.2
  · rw [rd_al, if_neg (by omega)]; exact H.2.1 f
  · by_cases hj : j = (k : Int) + 1
    · rw [kd_al, ln_al, if_pos (by omega), if_pos (by omega), hj]
      exact ⟨h1.symm, h2.symm, fun i => by rw [rd_al, if_pos (by omega)]; exact hg i⟩
    · have hh := H.2.2.1 j j1 (by omega)
      rw [kd_al, ln_al, if_neg (by omega), if_neg (by omega)]
      exact ⟨hh.1, hh.2.1, fun i => by rw [rd_al, if_neg (by omega)]; exact hh.2.2 i⟩
  · rw [kd_al, if_neg (by omega)]; exact (H.2.2.2 b hb).1
  · rw [ln_al, if_neg (by omega)]; exact (H.2.2.2 b hb).2.1
  · rw [rd_al, if_neg (by omega)]; exact (H.2.2.2 b hb).2.2 i
theorem INm.h0 (H : INm E mo w0 k F u) : 0 ≤ mo := by have := H.1.2.1; omega
end INS
def hz0 (_i _j : Int) : Int := 0
section M13
variable {E : Ev} {mo : Int} {w : Wd}
theorem c_m_init (hsz : szw w = mo + 1) (hmo : (eB E : Int) ≤ mo) (hk : kdw w mo = 2) (h19 : rdw w mo 19 = 0 ∧ rdw w mo 20 = 0) : Call E mX4_init 1 11 329 [vR mo] w (qU (fun w' => MM E mo 1 1 hz0 1 1 hz0 (-1, 0, 0, fun _ => 0) w' ∧ szw w' = mo + 12 ∧ ∀ b, b < mo → kdw w' b = kdw w b ∧ lnw w' b = lnw w b ∧ ∀ i, rdw w' b i = rdw w b i)) := by
  refine call_of (av := [(1, mo)]) (by decide +kernel) rfl (Nat.le_of_ble_eq_true rfl) ?_
  intro X hX hF hname
  show GG X 11 329 w 0 [(1, mo)] []
  have hN : INm E mo w 0 (fun f => rdw w mo f) w := ⟨⟨by omega, hmo, hk⟩, fun _ => rfl, fun j h1 h2 => absurd h1 (by omega), fun b hb => ⟨rfl, rfl, fun i => rfl⟩⟩
  refine g_aload_n (pc' := 1) hX dX4_init_0 rfl rfl ?_
  refine g_objInit (pc' := 4) hX dX4_init_1 q1517 q99 q100 hN.h0 (by decide) (Nat.le_of_ble_eq_true rfl) rfl ?_
  refine g_aload_n (pc' := 5) hX dX4_init_4 rfl rfl ?_
  refine g_iconst (pc' := 6) hX dX4_init_5 rfl ?_
  refine pf_X4_7 (pc' := 9) hX dX4_init_6 hN.1.2.1 hN.1.2.2 rfl ?_
  refine hN.stp (fun u hN => ?_)
  refine g_aload_n (pc' := 10) hX dX4_init_9 rfl rfl ?_
  refine g_iconst (pc' := 11) hX dX4_init_10 rfl ?_
  refine pf_X4_13 (pc' := 14) hX dX4_init_11 hN.1.2.1 hN.1.2.2 rfl ?_
  refine hN.stp (fun u hN => ?_)
  refine g_aload_n (pc' := 15) hX dX4_init_14 rfl rfl ?_
  refine g_iconst (pc' := 16) hX dX4_init_15 rfl ?_
  refine pf_X4_16 (pc' := 19) hX dX4_init_16 hN.1.2.1 hN.1.2.2 rfl ?_
  refine hN.stp (fun u hN => ?_)
  refine g_aload_n (pc' := 20) hX dX4_init_19 rfl rfl ?_
  refine g_iconst (pc' := 21) hX dX4_init_20 rfl ?_
  refine pf_X4_19 (pc' := 24) hX dX4_init_21 hN.1.2.1 hN.1.2.2 rfl ?_
  refine hN.stp (fun u hN => ?_)
  refine g_aload_n (pc' := 25) hX dX4_init_24 rfl rfl ?_
  refine g_bipush (pc' := 27) hX dX4_init_25 rfl rfl ?_
  refine g_newa (pc' := 29) 0 49 hX dX4_init_27 (by decide) rfl q229 rfl (by omega) (by omega) (by omega) rfl ?_
  refine hN.sta (by decide) (by decide) (fun _ => rfl) (fun u hN => ?_)
  refine pf_X4_22 (pc' := 32) hX hname dX4_init_29 hN.1.2.1 hN.1.2.2 rfl ?_
  refine hN.stp (fun u hN => ?_)
  refine g_aload_n (pc' := 33) hX dX4_init_32 rfl rfl ?_
  refine g_bipush (pc' := 35) hX dX4_init_33 rfl rfl ?_
  refine g_newa (pc' := 37) 0 49 hX dX4_init_35 (by decide) rfl q229 rfl (by omega) (by omega) (by omega) rfl ?_
  refine hN.sta (by decide) (by decide) (fun _ => rfl) (fun u hN => ?_)
  refine pf_X4_26 (pc' := 40) hX hname dX4_init_37 hN.1.2.1 hN.1.2.2 rfl ?_
  refine hN.stp (fun u hN => ?_)
  refine g_aload_n (pc' := 41) hX dX4_init_40 rfl rfl ?_
  refine g_bipush (pc' := 43) hX dX4_init_41 rfl rfl ?_
  refine g_newa (pc' := 45) 1 49 hX dX4_init_43 (by decide) rfl q230 rfl (by omega) (by omega) (by omega) rfl ?_
  refine hN.sta (by decide) (by decide) (fun _ => rfl) (fun u hN => ?_)
  refine pf_X4_29 (pc' := 48) hX hname dX4_init_45 hN.1.2.1 hN.1.2.2 rfl ?_
  refine hN.stp (fun u hN => ?_)
  refine g_aload_n (pc' := 49) hX dX4_init_48 rfl rfl ?_
  refine g_bipush (pc' := 51) hX dX4_init_49 rfl rfl ?_
  refine g_newa (pc' := 53) 1 49 hX dX4_init_51 (by decide) rfl q230 rfl (by omega) (by omega) (by omega) rfl ?_
  refine hN.sta (by decide) (by decide) (fun _ => rfl) (fun u hN => ?_)
  refine pf_X4_33 (pc' := 56) hX hname dX4_init_53 hN.1.2.1 hN.1.2.2 rfl ?_
  refine hN.stp (fun u hN => ?_)
  refine g_aload_n (pc' := 57) hX dX4_init_56 rfl rfl ?_
  refine g_bipush (pc' := 59) hX dX4_init_57 rfl rfl ?_
  refine g_newa (pc' := 61) 0 49 hX dX4_init_59 (by decide) rfl q229 rfl (by omega) (by omega) (by omega) rfl ?_
  refine hN.sta (by decide) (by decide) (fun _ => rfl) (fun u hN => ?_)
  refine pf_X4_36 (pc' := 64) hX hname dX4_init_61 hN.1.2.1 hN.1.2.2 rfl ?_
  refine hN.stp (fun u hN => ?_)
  refine g_aload_n (pc' := 65) hX dX4_init_64 rfl rfl ?_
  refine g_bipush (pc' := 67) hX dX4_init_65 rfl rfl ?_
  refine g_newa (pc' := 69) 0 49 hX dX4_init_67 (by decide) rfl q229 rfl (by omega) (by omega) (by omega) rfl ?_
  refine hN.sta (by decide) (by decide) (fun _ => rfl) (fun u hN => ?_)
  refine pf_X4_39 (pc' := 72) hX hname dX4_init_69 hN.1.2.1 hN.1.2.2 rfl ?_
  refine hN.stp (fun u hN => ?_)
  refine g_aload_n (pc' := 73) hX dX4_init_72 rfl rfl ?_
  refine g_bipush (pc' := 75) hX dX4_init_73 rfl rfl ?_
  refine g_newa (pc' := 77) 0 7 hX dX4_init_75 (by decide) rfl q229 rfl (by omega) (by omega) (by omega) rfl ?_
  refine hN.sta (by decide) (by decide) (fun _ => rfl) (fun u hN => ?_)
  refine pf_X4_42 (pc' := 80) hX hname dX4_init_77 hN.1.2.1 hN.1.2.2 rfl ?_
  refine hN.stp (fun u hN => ?_)
  refine g_aload_n (pc' := 81) hX dX4_init_80 rfl rfl ?_
  refine g_bipush (pc' := 83) hX dX4_init_81 rfl rfl ?_
  refine g_newa (pc' := 85) 0 7 hX dX4_init_83 (by decide) rfl q229 rfl (by omega) (by omega) (by omega) rfl ?_
  refine hN.sta (by decide) (by decide) (fun _ => rfl) (fun u hN => ?_)
  refine pf_X4_45 (pc' := 88) hX hname dX4_init_85 hN.1.2.1 hN.1.2.2 rfl ?_
  refine hN.stp (fun u hN => ?_)
  refine g_aload_n (pc' := 89) hX dX4_init_88 rfl rfl ?_
  refine g_iconst (pc' := 90) hX dX4_init_89 rfl ?_
  refine pf_X4_48 (pc' := 93) hX dX4_init_90 hN.1.2.1 hN.1.2.2 rfl ?_
  refine hN.stp (fun u hN => ?_)
  refine g_aload_n (pc' := 94) hX dX4_init_93 rfl rfl ?_
  refine g_bipush (pc' := 96) hX dX4_init_94 rfl rfl ?_
  refine g_newa (pc' := 98) 0 7 hX dX4_init_96 (by decide) rfl q229 rfl (by omega) (by omega) (by omega) rfl ?_
  refine hN.sta (by decide) (by decide) (fun _ => rfl) (fun u hN => ?_)
  refine pf_X4_51 (pc' := 101) hX hname dX4_init_98 hN.1.2.1 hN.1.2.2 rfl ?_
  refine hN.stp (fun u hN => ?_)
  refine g_aload_n (pc' := 102) hX dX4_init_101 rfl rfl ?_
  refine g_bipush (pc' := 104) hX dX4_init_102 rfl rfl ?_
  refine g_newa (pc' := 106) 0 7 hX dX4_init_104 (by decide) rfl q229 rfl (by omega) (by omega) (by omega) rfl ?_
  refine hN.sta (by decide) (by decide) (fun _ => rfl) (fun u hN => ?_)
  refine pf_X4_54 (pc' := 109) hX hname dX4_init_106 hN.1.2.1 hN.1.2.2 rfl ?_
  refine hN.stp (fun u hN => ?_)
  refine g_aload_n (pc' := 110) hX dX4_init_109 rfl rfl ?_
  refine g_bipush (pc' := 112) hX dX4_init_110 rfl rfl ?_
  refine g_newa (pc' := 114) 0 7 hX dX4_init_112 (by decide) rfl q229 rfl (by omega) (by omega) (by omega) rfl ?_
  refine hN.sta (by decide) (by decide) (fun _ => rfl) (fun u hN => ?_)
  refine pf_X4_57 (pc' := 117) hX hname dX4_init_114 hN.1.2.1 hN.1.2.2 rfl ?_
  refine hN.stp (fun u hN => ?_)
  refine g_retU hX hF dX4_init_117 ⟨⟨⟨⟨hN.1.2.1, hN.1.2.2, fun k h1 h2 => ⟨(hN.2.2.1 k h1 h2).1, (hN.2.2.1 k h1 h2).2.1⟩⟩, fun f hf => ?_, ?_, ?_, by omega⟩, ⟨⟨?_, ?_⟩, by omega⟩, fun i j i0 i1 j0 j1 => ⟨by unfold hz0; omega, (hN.2.2.1 1 (by omega) (by omega)).2.2 _, (hN.2.2.1 3 (by omega) (by omega)).2.2 _⟩, fun i j i0 i1 j0 j1 => ⟨by unfold hz0; omega, (hN.2.2.1 2 (by omega) (by omega)).2.2 _, (hN.2.2.1 4 (by omega) (by omega)).2.2 _⟩, ⟨?_, ?_, ?_⟩, ⟨show (-1 : Int) ≤ -1 by omega, show (-1 : Int) ≤ 5040 by omega⟩, ⟨show (-1 : Int) ≤ 0 by omega, show (0 : Int) ≤ 1000000 by omega⟩, ⟨show (0 : Int) ≤ 0 by omega, show (0 : Int) ≤ 5040 by omega⟩, fun i h0 h1 => ⟨(hN.2.2.1 9 (by omega) (by omega)).2.2 _, show (0 : Int) ≤ 0 by omega, show (0 : Int) ≤ 6 by omega⟩⟩, by rw [hN.1.1]; omega, hN.2.2.2⟩
  · rw [hN.2.1]
    have hf2 : f = 5 ∨ f = 6 ∨ f = 7 ∨ f = 8 ∨ f = 9 ∨ f = 10 ∨ f = 11 ∨ f = 12 ∨ f = 21 ∨ f = 22 ∨ f = 23 := by omega
    rcases hf2 with rfl | rfl | rfl | rfl | rfl | rfl | rfl | rfl | rfl | rfl | rfl <;> simp [moF] <;> omega
  all_goals
    rw [hN.2.1]
    simp [h19]

end M13
