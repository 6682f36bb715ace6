/-! FIELDS AND CALLS BY ENTRY (by gen/links.py out of claim/names) -/
set_option maxRecDepth 100000
theorem gc_X1 : GC[0]? = some (RX1, TX1, 26) := rfl
theorem gc_X4 : GC[1]? = some (RX4, TX4, 24) := rfl
theorem gc_X5 : GC[2]? = some (RX5, TX5, 3) := rfl
theorem gc_X6 : GC[3]? = some (RX6, TX6, 4) := rfl
theorem gc_X2 : GC[4]? = some (RX2, T0_, 0) := rfl
theorem gc_X3 : GC[5]? = some (RX3, T0_, 0) := rfl
theorem gc_J2 : GC[6]? = some (RJ2, TJ2, 3) := rfl
theorem gc_J19 : GC[7]? = some (RJ19, TJ19, 4) := rfl
theorem gc_J9 : GC[8]? = some (RJ9, TJ9, 4) := rfl
theorem gc_J4 : GC[9]? = some (RJ4, TJ4, 1) := rfl
section LK
variable {X : Cx} {E : Ev} {cc : ByteArray} {nL d bc bs : Nat} {w : Wd} {pc pc' : Nat} {lv : List (Nat × Int)} {st : List Value}
theorem gf_J2_9 {a : Int} (h : Ok X E RJ2 cc nL d) (dg : decode cc pc = .ok (.getfield 9, 3)) (ha : 0 ≤ a) (hkd : kdw w a = 7) (hp : pc + 3 = pc') (K : GG X bc bs w pc' lv (vR (rdw w a 1) :: st)) : GG X bc bs w pc lv (vR a :: st) := g_get 1 h dg gc_J2 (by decide) q118 (Or.inl rfl) ha hkd hp K
theorem pf_J2_9 {a x : Int} (h : Ok X E RJ2 cc nL d) (dg : decode cc pc = .ok (.putfield 9, 3)) (ha : (eB E : Int) ≤ a) (hkd : kdw w a = 7) (hp : pc + 3 = pc') (K : GG X bc bs (upw w a 1 x) pc' lv st) : GG X bc bs w pc lv (vR x :: vR a :: st) := g_put 1 h dg gc_J2 (by decide) q118 (Or.inl rfl) rfl trivial ha hkd hp K
theorem gf_J19_37 {a : Int} (h : Ok X E RJ19 cc nL d) (dg : decode cc pc = .ok (.getfield 37, 3)) (ha : 0 ≤ a) (hkd : kdw w a = 7) (hp : pc + 3 = pc') (K : GG X bc bs w pc' lv (vR (rdw w a 1) :: st)) : GG X bc bs w pc lv (vR a :: st) := g_get 1 h dg gc_J2 (by decide) q119 (Or.inl rfl) ha hkd hp K
theorem pf_J19_37 {a x : Int} (h : Ok X E RJ19 cc nL d) (dg : decode cc pc = .ok (.putfield 37, 3)) (ha : (eB E : Int) ≤ a) (hkd : kdw w a = 7) (hp : pc + 3 = pc') (K : GG X bc bs (upw w a 1 x) pc' lv st) : GG X bc bs w pc lv (vR x :: vR a :: st) := g_put 1 h dg gc_J2 (by decide) q119 (Or.inl rfl) rfl trivial ha hkd hp K
theorem gf_J2_48 {a : Int} (h : Ok X E RJ2 cc nL d) (dg : decode cc pc = .ok (.getfield 48, 3)) (ha : 0 ≤ a) (hkd : kdw w a = 7) (hp : pc + 3 = pc') (K : GG X bc bs w pc' lv (vI (rdw w a 2) :: st)) : GG X bc bs w pc lv (vR a :: st) := g_get 2 h dg gc_J2 (by decide) q121 (Or.inl rfl) ha hkd hp K
theorem pf_J2_48 {a x : Int} (h : Ok X E RJ2 cc nL d) (dg : decode cc pc = .ok (.putfield 48, 3)) (ha : (eB E : Int) ≤ a) (hkd : kdw w a = 7) (hp : pc + 3 = pc') (K : GG X bc bs (upw w a 2 x) pc' lv st) : GG X bc bs w pc lv (vI x :: vR a :: st) := g_put 2 h dg gc_J2 (by decide) q121 (Or.inl rfl) rfl trivial ha hkd hp K
theorem gf_J19_17 {a : Int} (h : Ok X E RJ19 cc nL d) (dg : decode cc pc = .ok (.getfield 17, 3)) (ha : 0 ≤ a) (hkd : kdw w a = 7) (hp : pc + 3 = pc') (K : GG X bc bs w pc' lv (vI (rdw w a 0) :: st)) : GG X bc bs w pc lv (vR a :: st) := g_get 0 h dg gc_J2 (by decide) q123 (Or.inr q124) ha hkd hp K
theorem pf_J19_17 {a x : Int} (h : Ok X E RJ19 cc nL d) (dg : decode cc pc = .ok (.putfield 17, 3)) (ha : (eB E : Int) ≤ a) (hkd : kdw w a = 7) (hp : pc + 3 = pc') (K : GG X bc bs (upw w a 0 x) pc' lv st) : GG X bc bs w pc lv (vI x :: vR a :: st) := g_put 0 h dg gc_J2 (by decide) q123 (Or.inr q124) rfl trivial ha hkd hp K
theorem gf_J2_63 {a : Int} (h : Ok X E RJ2 cc nL d) (dg : decode cc pc = .ok (.getfield 63, 3)) (ha : 0 ≤ a) (hkd : kdw w a = 7) (hp : pc + 3 = pc') (K : GG X bc bs w pc' lv (vI (rdw w a 0) :: st)) : GG X bc bs w pc lv (vR a :: st) := g_get 0 h dg gc_J2 (by decide) q125 (Or.inr q124) ha hkd hp K
theorem pf_J2_63 {a x : Int} (h : Ok X E RJ2 cc nL d) (dg : decode cc pc = .ok (.putfield 63, 3)) (ha : (eB E : Int) ≤ a) (hkd : kdw w a = 7) (hp : pc + 3 = pc') (K : GG X bc bs (upw w a 0 x) pc' lv st) : GG X bc bs w pc lv (vI x :: vR a :: st) := g_put 0 h dg gc_J2 (by decide) q125 (Or.inr q124) rfl trivial ha hkd hp K
theorem gf_X6_7 {a : Int} (h : Ok X E RX6 cc nL d) (dg : decode cc pc = .ok (.getfield 7, 3)) (ha : 0 ≤ a) (hkd : kdw w a = 4) (hp : pc + 3 = pc') (K : GG X bc bs w pc' lv (vI (rdw w a 0) :: st)) : GG X bc bs w pc lv (vR a :: st) := g_get 0 h dg gc_X6 (by decide) q1456 (Or.inl rfl) ha hkd hp K
theorem pf_X6_7 {a x : Int} (h : Ok X E RX6 cc nL d) (hname : (cH X).name = "<init>") (dg : decode cc pc = .ok (.putfield 7, 3)) (ha : (eB E : Int) ≤ a) (hkd : kdw w a = 4) (hp : pc + 3 = pc') (K : GG X bc bs (upw w a 0 x) pc' lv st) : GG X bc bs w pc lv (vI x :: vR a :: st) := g_putF 0 h hname dg gc_X6 (by decide) q1456 (Or.inl rfl) rfl rfl trivial ha hkd hp K
theorem gf_X6_13 {a : Int} (h : Ok X E RX6 cc nL d) (dg : decode cc pc = .ok (.getfield 13, 3)) (ha : 0 ≤ a) (hkd : kdw w a = 4) (hp : pc + 3 = pc') (K : GG X bc bs w pc' lv (vI (rdw w a 1) :: st)) : GG X bc bs w pc lv (vR a :: st) := g_get 1 h dg gc_X6 (by decide) q1459 (Or.inl rfl) ha hkd hp K
theorem pf_X6_13 {a x : Int} (h : Ok X E RX6 cc nL d) (hname : (cH X).name = "<init>") (dg : decode cc pc = .ok (.putfield 13, 3)) (ha : (eB E : Int) ≤ a) (hkd : kdw w a = 4) (hp : pc + 3 = pc') (K : GG X bc bs (upw w a 1 x) pc' lv st) : GG X bc bs w pc lv (vI x :: vR a :: st) := g_putF 1 h hname dg gc_X6 (by decide) q1459 (Or.inl rfl) rfl rfl trivial ha hkd hp K
theorem gf_X6_16 {a : Int} (h : Ok X E RX6 cc nL d) (dg : decode cc pc = .ok (.getfield 16, 3)) (ha : 0 ≤ a) (hkd : kdw w a = 4) (hp : pc + 3 = pc') (K : GG X bc bs w pc' lv (vI (rdw w a 2) :: st)) : GG X bc bs w pc lv (vR a :: st) := g_get 2 h dg gc_X6 (by decide) q1462 (Or.inl rfl) ha hkd hp K
theorem pf_X6_16 {a x : Int} (h : Ok X E RX6 cc nL d) (hname : (cH X).name = "<init>") (dg : decode cc pc = .ok (.putfield 16, 3)) (ha : (eB E : Int) ≤ a) (hkd : kdw w a = 4) (hp : pc + 3 = pc') (K : GG X bc bs (upw w a 2 x) pc' lv st) : GG X bc bs w pc lv (vI x :: vR a :: st) := g_putF 2 h hname dg gc_X6 (by decide) q1462 (Or.inl rfl) rfl rfl trivial ha hkd hp K
theorem gf_X6_19 {a : Int} (h : Ok X E RX6 cc nL d) (dg : decode cc pc = .ok (.getfield 19, 3)) (ha : 0 ≤ a) (hkd : kdw w a = 4) (hp : pc + 3 = pc') (K : GG X bc bs w pc' lv (vI (rdw w a 3) :: st)) : GG X bc bs w pc lv (vR a :: st) := g_get 3 h dg gc_X6 (by decide) q1465 (Or.inl rfl) ha hkd hp K
theorem pf_X6_19 {a x : Int} (h : Ok X E RX6 cc nL d) (hname : (cH X).name = "<init>") (dg : decode cc pc = .ok (.putfield 19, 3)) (ha : (eB E : Int) ≤ a) (hkd : kdw w a = 4) (hp : pc + 3 = pc') (K : GG X bc bs (upw w a 3 x) pc' lv st) : GG X bc bs w pc lv (vI x :: vR a :: st) := g_putF 3 h hname dg gc_X6 (by decide) q1465 (Or.inl rfl) rfl rfl trivial ha hkd hp K
theorem gf_J4_205 {a : Int} (h : Ok X E RJ4 cc nL d) (dg : decode cc pc = .ok (.getfield 205, 3)) (ha : 0 ≤ a) (hkd : kdw w a = 10) (hp : pc + 3 = pc') (K : GG X bc bs w pc' lv (vI (rdw w a 0) :: st)) : GG X bc bs w pc lv (vR a :: st) := g_get 0 h dg gc_J4 (by decide) q149 (Or.inl rfl) ha hkd hp K
theorem pf_J4_205 {a x : Int} (h : Ok X E RJ4 cc nL d) (hname : (cH X).name = "<init>") (dg : decode cc pc = .ok (.putfield 205, 3)) (ha : (eB E : Int) ≤ a) (hkd : kdw w a = 10) (hp : pc + 3 = pc') (K : GG X bc bs (upw w a 0 x) pc' lv st) : GG X bc bs w pc lv (vI x :: vR a :: st) := g_putF 0 h hname dg gc_J4 (by decide) q149 (Or.inl rfl) rfl rfl trivial ha hkd hp K
theorem gf_X4_7 {a : Int} (h : Ok X E RX4 cc nL d) (dg : decode cc pc = .ok (.getfield 7, 3)) (ha : 0 ≤ a) (hkd : kdw w a = 2) (hp : pc + 3 = pc') (K : GG X bc bs w pc' lv (vI (rdw w a 0) :: st)) : GG X bc bs w pc lv (vR a :: st) := g_get 0 h dg gc_X4 (by decide) q1518 (Or.inl rfl) ha hkd hp K
theorem pf_X4_7 {a x : Int} (h : Ok X E RX4 cc nL d) (dg : decode cc pc = .ok (.putfield 7, 3)) (ha : (eB E : Int) ≤ a) (hkd : kdw w a = 2) (hp : pc + 3 = pc') (K : GG X bc bs (upw w a 0 x) pc' lv st) : GG X bc bs w pc lv (vI x :: vR a :: st) := g_put 0 h dg gc_X4 (by decide) q1518 (Or.inl rfl) rfl trivial ha hkd hp K
theorem gf_X4_13 {a : Int} (h : Ok X E RX4 cc nL d) (dg : decode cc pc = .ok (.getfield 13, 3)) (ha : 0 ≤ a) (hkd : kdw w a = 2) (hp : pc + 3 = pc') (K : GG X bc bs w pc' lv (vI (rdw w a 1) :: st)) : GG X bc bs w pc lv (vR a :: st) := g_get 1 h dg gc_X4 (by decide) q1519 (Or.inl rfl) ha hkd hp K
theorem pf_X4_13 {a x : Int} (h : Ok X E RX4 cc nL d) (dg : decode cc pc = .ok (.putfield 13, 3)) (ha : (eB E : Int) ≤ a) (hkd : kdw w a = 2) (hp : pc + 3 = pc') (K : GG X bc bs (upw w a 1 x) pc' lv st) : GG X bc bs w pc lv (vI x :: vR a :: st) := g_put 1 h dg gc_X4 (by decide) q1519 (Or.inl rfl) rfl trivial ha hkd hp K
theorem gf_X4_16 {a : Int} (h : Ok X E RX4 cc nL d) (dg : decode cc pc = .ok (.getfield 16, 3)) (ha : 0 ≤ a) (hkd : kdw w a = 2) (hp : pc + 3 = pc') (K : GG X bc bs w pc' lv (vI (rdw w a 2) :: st)) : GG X bc bs w pc lv (vR a :: st) := g_get 2 h dg gc_X4 (by decide) q1520 (Or.inl rfl) ha hkd hp K
theorem pf_X4_16 {a x : Int} (h : Ok X E RX4 cc nL d) (dg : decode cc pc = .ok (.putfield 16, 3)) (ha : (eB E : Int) ≤ a) (hkd : kdw w a = 2) (hp : pc + 3 = pc') (K : GG X bc bs (upw w a 2 x) pc' lv st) : GG X bc bs w pc lv (vI x :: vR a :: st) := g_put 2 h dg gc_X4 (by decide) q1520 (Or.inl rfl) rfl trivial ha hkd hp K
theorem gf_X4_19 {a : Int} (h : Ok X E RX4 cc nL d) (dg : decode cc pc = .ok (.getfield 19, 3)) (ha : 0 ≤ a) (hkd : kdw w a = 2) (hp : pc + 3 = pc') (K : GG X bc bs w pc' lv (vI (rdw w a 3) :: st)) : GG X bc bs w pc lv (vR a :: st) := g_get 3 h dg gc_X4 (by decide) q1521 (Or.inl rfl) ha hkd hp K
theorem pf_X4_19 {a x : Int} (h : Ok X E RX4 cc nL d) (dg : decode cc pc = .ok (.putfield 19, 3)) (ha : (eB E : Int) ≤ a) (hkd : kdw w a = 2) (hp : pc + 3 = pc') (K : GG X bc bs (upw w a 3 x) pc' lv st) : GG X bc bs w pc lv (vI x :: vR a :: st) := g_put 3 h dg gc_X4 (by decide) q1521 (Or.inl rfl) rfl trivial ha hkd hp K
theorem gf_X4_60 {a : Int} (h : Ok X E RX4 cc nL d) (dg : decode cc pc = .ok (.getfield 60, 3)) (ha : 0 ≤ a) (hkd : kdw w a = 2) (hp : pc + 3 = pc') (K : GG X bc bs w pc' lv (vI (rdw w a 4) :: st)) : GG X bc bs w pc lv (vR a :: st) := g_get 4 h dg gc_X4 (by decide) q1522 (Or.inl rfl) ha hkd hp K
theorem pf_X4_60 {a x : Int} (h : Ok X E RX4 cc nL d) (dg : decode cc pc = .ok (.putfield 60, 3)) (ha : (eB E : Int) ≤ a) (hkd : kdw w a = 2) (hp : pc + 3 = pc') (K : GG X bc bs (upw w a 4 x) pc' lv st) : GG X bc bs w pc lv (vI x :: vR a :: st) := g_put 4 h dg gc_X4 (by decide) q1522 (Or.inl rfl) rfl trivial ha hkd hp K
theorem gf_X4_22 {a : Int} (h : Ok X E RX4 cc nL d) (dg : decode cc pc = .ok (.getfield 22, 3)) (ha : 0 ≤ a) (hkd : kdw w a = 2) (hp : pc + 3 = pc') (K : GG X bc bs w pc' lv (vR (rdw w a 5) :: st)) : GG X bc bs w pc lv (vR a :: st) := g_get 5 h dg gc_X4 (by decide) q1523 (Or.inl rfl) ha hkd hp K
theorem pf_X4_22 {a x : Int} (h : Ok X E RX4 cc nL d) (hname : (cH X).name = "<init>") (dg : decode cc pc = .ok (.putfield 22, 3)) (ha : (eB E : Int) ≤ a) (hkd : kdw w a = 2) (hp : pc + 3 = pc') (K : GG X bc bs (upw w a 5 x) pc' lv st) : GG X bc bs w pc lv (vR x :: vR a :: st) := g_putF 5 h hname dg gc_X4 (by decide) q1523 (Or.inl rfl) rfl rfl trivial ha hkd hp K
theorem gf_X4_26 {a : Int} (h : Ok X E RX4 cc nL d) (dg : decode cc pc = .ok (.getfield 26, 3)) (ha : 0 ≤ a) (hkd : kdw w a = 2) (hp : pc + 3 = pc') (K : GG X bc bs w pc' lv (vR (rdw w a 6) :: st)) : GG X bc bs w pc lv (vR a :: st) := g_get 6 h dg gc_X4 (by decide) q1524 (Or.inl rfl) ha hkd hp K
theorem pf_X4_26 {a x : Int} (h : Ok X E RX4 cc nL d) (hname : (cH X).name = "<init>") (dg : decode cc pc = .ok (.putfield 26, 3)) (ha : (eB E : Int) ≤ a) (hkd : kdw w a = 2) (hp : pc + 3 = pc') (K : GG X bc bs (upw w a 6 x) pc' lv st) : GG X bc bs w pc lv (vR x :: vR a :: st) := g_putF 6 h hname dg gc_X4 (by decide) q1524 (Or.inl rfl) rfl rfl trivial ha hkd hp K
theorem gf_X4_29 {a : Int} (h : Ok X E RX4 cc nL d) (dg : decode cc pc = .ok (.getfield 29, 3)) (ha : 0 ≤ a) (hkd : kdw w a = 2) (hp : pc + 3 = pc') (K : GG X bc bs w pc' lv (vR (rdw w a 7) :: st)) : GG X bc bs w pc lv (vR a :: st) := g_get 7 h dg gc_X4 (by decide) q1525 (Or.inl rfl) ha hkd hp K
theorem pf_X4_29 {a x : Int} (h : Ok X E RX4 cc nL d) (hname : (cH X).name = "<init>") (dg : decode cc pc = .ok (.putfield 29, 3)) (ha : (eB E : Int) ≤ a) (hkd : kdw w a = 2) (hp : pc + 3 = pc') (K : GG X bc bs (upw w a 7 x) pc' lv st) : GG X bc bs w pc lv (vR x :: vR a :: st) := g_putF 7 h hname dg gc_X4 (by decide) q1525 (Or.inl rfl) rfl rfl trivial ha hkd hp K
theorem gf_X4_33 {a : Int} (h : Ok X E RX4 cc nL d) (dg : decode cc pc = .ok (.getfield 33, 3)) (ha : 0 ≤ a) (hkd : kdw w a = 2) (hp : pc + 3 = pc') (K : GG X bc bs w pc' lv (vR (rdw w a 8) :: st)) : GG X bc bs w pc lv (vR a :: st) := g_get 8 h dg gc_X4 (by decide) q1526 (Or.inl rfl) ha hkd hp K
theorem pf_X4_33 {a x : Int} (h : Ok X E RX4 cc nL d) (hname : (cH X).name = "<init>") (dg : decode cc pc = .ok (.putfield 33, 3)) (ha : (eB E : Int) ≤ a) (hkd : kdw w a = 2) (hp : pc + 3 = pc') (K : GG X bc bs (upw w a 8 x) pc' lv st) : GG X bc bs w pc lv (vR x :: vR a :: st) := g_putF 8 h hname dg gc_X4 (by decide) q1526 (Or.inl rfl) rfl rfl trivial ha hkd hp K
theorem gf_X4_36 {a : Int} (h : Ok X E RX4 cc nL d) (dg : decode cc pc = .ok (.getfield 36, 3)) (ha : 0 ≤ a) (hkd : kdw w a = 2) (hp : pc + 3 = pc') (K : GG X bc bs w pc' lv (vR (rdw w a 9) :: st)) : GG X bc bs w pc lv (vR a :: st) := g_get 9 h dg gc_X4 (by decide) q1527 (Or.inl rfl) ha hkd hp K
theorem pf_X4_36 {a x : Int} (h : Ok X E RX4 cc nL d) (hname : (cH X).name = "<init>") (dg : decode cc pc = .ok (.putfield 36, 3)) (ha : (eB E : Int) ≤ a) (hkd : kdw w a = 2) (hp : pc + 3 = pc') (K : GG X bc bs (upw w a 9 x) pc' lv st) : GG X bc bs w pc lv (vR x :: vR a :: st) := g_putF 9 h hname dg gc_X4 (by decide) q1527 (Or.inl rfl) rfl rfl trivial ha hkd hp K
theorem gf_X4_39 {a : Int} (h : Ok X E RX4 cc nL d) (dg : decode cc pc = .ok (.getfield 39, 3)) (ha : 0 ≤ a) (hkd : kdw w a = 2) (hp : pc + 3 = pc') (K : GG X bc bs w pc' lv (vR (rdw w a 10) :: st)) : GG X bc bs w pc lv (vR a :: st) := g_get 10 h dg gc_X4 (by decide) q1528 (Or.inl rfl) ha hkd hp K
theorem pf_X4_39 {a x : Int} (h : Ok X E RX4 cc nL d) (hname : (cH X).name = "<init>") (dg : decode cc pc = .ok (.putfield 39, 3)) (ha : (eB E : Int) ≤ a) (hkd : kdw w a = 2) (hp : pc + 3 = pc') (K : GG X bc bs (upw w a 10 x) pc' lv st) : GG X bc bs w pc lv (vR x :: vR a :: st) := g_putF 10 h hname dg gc_X4 (by decide) q1528 (Or.inl rfl) rfl rfl trivial ha hkd hp K
theorem gf_X4_42 {a : Int} (h : Ok X E RX4 cc nL d) (dg : decode cc pc = .ok (.getfield 42, 3)) (ha : 0 ≤ a) (hkd : kdw w a = 2) (hp : pc + 3 = pc') (K : GG X bc bs w pc' lv (vR (rdw w a 11) :: st)) : GG X bc bs w pc lv (vR a :: st) := g_get 11 h dg gc_X4 (by decide) q1529 (Or.inl rfl) ha hkd hp K
theorem pf_X4_42 {a x : Int} (h : Ok X E RX4 cc nL d) (hname : (cH X).name = "<init>") (dg : decode cc pc = .ok (.putfield 42, 3)) (ha : (eB E : Int) ≤ a) (hkd : kdw w a = 2) (hp : pc + 3 = pc') (K : GG X bc bs (upw w a 11 x) pc' lv st) : GG X bc bs w pc lv (vR x :: vR a :: st) := g_putF 11 h hname dg gc_X4 (by decide) q1529 (Or.inl rfl) rfl rfl trivial ha hkd hp K
theorem gf_X4_45 {a : Int} (h : Ok X E RX4 cc nL d) (dg : decode cc pc = .ok (.getfield 45, 3)) (ha : 0 ≤ a) (hkd : kdw w a = 2) (hp : pc + 3 = pc') (K : GG X bc bs w pc' lv (vR (rdw w a 12) :: st)) : GG X bc bs w pc lv (vR a :: st) := g_get 12 h dg gc_X4 (by decide) q1530 (Or.inl rfl) ha hkd hp K
theorem pf_X4_45 {a x : Int} (h : Ok X E RX4 cc nL d) (hname : (cH X).name = "<init>") (dg : decode cc pc = .ok (.putfield 45, 3)) (ha : (eB E : Int) ≤ a) (hkd : kdw w a = 2) (hp : pc + 3 = pc') (K : GG X bc bs (upw w a 12 x) pc' lv st) : GG X bc bs w pc lv (vR x :: vR a :: st) := g_putF 12 h hname dg gc_X4 (by decide) q1530 (Or.inl rfl) rfl rfl trivial ha hkd hp K
theorem gf_X4_80 {a : Int} (h : Ok X E RX4 cc nL d) (dg : decode cc pc = .ok (.getfield 80, 3)) (ha : 0 ≤ a) (hkd : kdw w a = 2) (hp : pc + 3 = pc') (K : GG X bc bs w pc' lv (vI (rdw w a 13) :: st)) : GG X bc bs w pc lv (vR a :: st) := g_get 13 h dg gc_X4 (by decide) q1531 (Or.inl rfl) ha hkd hp K
theorem pf_X4_80 {a x : Int} (h : Ok X E RX4 cc nL d) (dg : decode cc pc = .ok (.putfield 80, 3)) (ha : (eB E : Int) ≤ a) (hkd : kdw w a = 2) (hp : pc + 3 = pc') (K : GG X bc bs (upw w a 13 x) pc' lv st) : GG X bc bs w pc lv (vI x :: vR a :: st) := g_put 13 h dg gc_X4 (by decide) q1531 (Or.inl rfl) rfl trivial ha hkd hp K
theorem gf_X4_83 {a : Int} (h : Ok X E RX4 cc nL d) (dg : decode cc pc = .ok (.getfield 83, 3)) (ha : 0 ≤ a) (hkd : kdw w a = 2) (hp : pc + 3 = pc') (K : GG X bc bs w pc' lv (vI (rdw w a 14) :: st)) : GG X bc bs w pc lv (vR a :: st) := g_get 14 h dg gc_X4 (by decide) q1532 (Or.inl rfl) ha hkd hp K
theorem pf_X4_83 {a x : Int} (h : Ok X E RX4 cc nL d) (dg : decode cc pc = .ok (.putfield 83, 3)) (ha : (eB E : Int) ≤ a) (hkd : kdw w a = 2) (hp : pc + 3 = pc') (K : GG X bc bs (upw w a 14 x) pc' lv st) : GG X bc bs w pc lv (vI x :: vR a :: st) := g_put 14 h dg gc_X4 (by decide) q1532 (Or.inl rfl) rfl trivial ha hkd hp K
theorem gf_X4_86 {a : Int} (h : Ok X E RX4 cc nL d) (dg : decode cc pc = .ok (.getfield 86, 3)) (ha : 0 ≤ a) (hkd : kdw w a = 2) (hp : pc + 3 = pc') (K : GG X bc bs w pc' lv (vI (rdw w a 15) :: st)) : GG X bc bs w pc lv (vR a :: st) := g_get 15 h dg gc_X4 (by decide) q1533 (Or.inl rfl) ha hkd hp K
theorem pf_X4_86 {a x : Int} (h : Ok X E RX4 cc nL d) (dg : decode cc pc = .ok (.putfield 86, 3)) (ha : (eB E : Int) ≤ a) (hkd : kdw w a = 2) (hp : pc + 3 = pc') (K : GG X bc bs (upw w a 15 x) pc' lv st) : GG X bc bs w pc lv (vI x :: vR a :: st) := g_put 15 h dg gc_X4 (by decide) q1533 (Or.inl rfl) rfl trivial ha hkd hp K
theorem gf_X4_89 {a : Int} (h : Ok X E RX4 cc nL d) (dg : decode cc pc = .ok (.getfield 89, 3)) (ha : 0 ≤ a) (hkd : kdw w a = 2) (hp : pc + 3 = pc') (K : GG X bc bs w pc' lv (vI (rdw w a 16) :: st)) : GG X bc bs w pc lv (vR a :: st) := g_get 16 h dg gc_X4 (by decide) q1534 (Or.inl rfl) ha hkd hp K
theorem pf_X4_89 {a x : Int} (h : Ok X E RX4 cc nL d) (dg : decode cc pc = .ok (.putfield 89, 3)) (ha : (eB E : Int) ≤ a) (hkd : kdw w a = 2) (hp : pc + 3 = pc') (K : GG X bc bs (upw w a 16 x) pc' lv st) : GG X bc bs w pc lv (vI x :: vR a :: st) := g_put 16 h dg gc_X4 (by decide) q1534 (Or.inl rfl) rfl trivial ha hkd hp K
theorem gf_X4_92 {a : Int} (h : Ok X E RX4 cc nL d) (dg : decode cc pc = .ok (.getfield 92, 3)) (ha : 0 ≤ a) (hkd : kdw w a = 2) (hp : pc + 3 = pc') (K : GG X bc bs w pc' lv (vI (rdw w a 17) :: st)) : GG X bc bs w pc lv (vR a :: st) := g_get 17 h dg gc_X4 (by decide) q1535 (Or.inl rfl) ha hkd hp K
theorem pf_X4_92 {a x : Int} (h : Ok X E RX4 cc nL d) (dg : decode cc pc = .ok (.putfield 92, 3)) (ha : (eB E : Int) ≤ a) (hkd : kdw w a = 2) (hp : pc + 3 = pc') (K : GG X bc bs (upw w a 17 x) pc' lv st) : GG X bc bs w pc lv (vI x :: vR a :: st) := g_put 17 h dg gc_X4 (by decide) q1535 (Or.inl rfl) rfl trivial ha hkd hp K
theorem gf_X4_48 {a : Int} (h : Ok X E RX4 cc nL d) (dg : decode cc pc = .ok (.getfield 48, 3)) (ha : 0 ≤ a) (hkd : kdw w a = 2) (hp : pc + 3 = pc') (K : GG X bc bs w pc' lv (vI (rdw w a 18) :: st)) : GG X bc bs w pc lv (vR a :: st) := g_get 18 h dg gc_X4 (by decide) q1536 (Or.inl rfl) ha hkd hp K
theorem pf_X4_48 {a x : Int} (h : Ok X E RX4 cc nL d) (dg : decode cc pc = .ok (.putfield 48, 3)) (ha : (eB E : Int) ≤ a) (hkd : kdw w a = 2) (hp : pc + 3 = pc') (K : GG X bc bs (upw w a 18 x) pc' lv st) : GG X bc bs w pc lv (vI x :: vR a :: st) := g_put 18 h dg gc_X4 (by decide) q1536 (Or.inl rfl) rfl trivial ha hkd hp K
theorem gf_X4_172 {a : Int} (h : Ok X E RX4 cc nL d) (dg : decode cc pc = .ok (.getfield 172, 3)) (ha : 0 ≤ a) (hkd : kdw w a = 2) (hp : pc + 3 = pc') (K : GG X bc bs w pc' lv (vI (rdw w a 19) :: st)) : GG X bc bs w pc lv (vR a :: st) := g_get 19 h dg gc_X4 (by decide) q1537 (Or.inl rfl) ha hkd hp K
theorem pf_X4_172 {a x : Int} (h : Ok X E RX4 cc nL d) (dg : decode cc pc = .ok (.putfield 172, 3)) (ha : (eB E : Int) ≤ a) (hkd : kdw w a = 2) (hp : pc + 3 = pc') (K : GG X bc bs (upw w a 19 x) pc' lv st) : GG X bc bs w pc lv (vI x :: vR a :: st) := g_put 19 h dg gc_X4 (by decide) q1537 (Or.inl rfl) rfl trivial ha hkd hp K
theorem gf_X4_175 {a : Int} (h : Ok X E RX4 cc nL d) (dg : decode cc pc = .ok (.getfield 175, 3)) (ha : 0 ≤ a) (hkd : kdw w a = 2) (hp : pc + 3 = pc') (K : GG X bc bs w pc' lv (vI (rdw w a 20) :: st)) : GG X bc bs w pc lv (vR a :: st) := g_get 20 h dg gc_X4 (by decide) q1538 (Or.inl rfl) ha hkd hp K
theorem pf_X4_175 {a x : Int} (h : Ok X E RX4 cc nL d) (dg : decode cc pc = .ok (.putfield 175, 3)) (ha : (eB E : Int) ≤ a) (hkd : kdw w a = 2) (hp : pc + 3 = pc') (K : GG X bc bs (upw w a 20 x) pc' lv st) : GG X bc bs w pc lv (vI x :: vR a :: st) := g_put 20 h dg gc_X4 (by decide) q1538 (Or.inl rfl) rfl trivial ha hkd hp K
theorem gf_X4_51 {a : Int} (h : Ok X E RX4 cc nL d) (dg : decode cc pc = .ok (.getfield 51, 3)) (ha : 0 ≤ a) (hkd : kdw w a = 2) (hp : pc + 3 = pc') (K : GG X bc bs w pc' lv (vR (rdw w a 21) :: st)) : GG X bc bs w pc lv (vR a :: st) := g_get 21 h dg gc_X4 (by decide) q1539 (Or.inl rfl) ha hkd hp K
theorem pf_X4_51 {a x : Int} (h : Ok X E RX4 cc nL d) (hname : (cH X).name = "<init>") (dg : decode cc pc = .ok (.putfield 51, 3)) (ha : (eB E : Int) ≤ a) (hkd : kdw w a = 2) (hp : pc + 3 = pc') (K : GG X bc bs (upw w a 21 x) pc' lv st) : GG X bc bs w pc lv (vR x :: vR a :: st) := g_putF 21 h hname dg gc_X4 (by decide) q1539 (Or.inl rfl) rfl rfl trivial ha hkd hp K
theorem gf_X4_54 {a : Int} (h : Ok X E RX4 cc nL d) (dg : decode cc pc = .ok (.getfield 54, 3)) (ha : 0 ≤ a) (hkd : kdw w a = 2) (hp : pc + 3 = pc') (K : GG X bc bs w pc' lv (vR (rdw w a 22) :: st)) : GG X bc bs w pc lv (vR a :: st) := g_get 22 h dg gc_X4 (by decide) q1540 (Or.inl rfl) ha hkd hp K
theorem pf_X4_54 {a x : Int} (h : Ok X E RX4 cc nL d) (hname : (cH X).name = "<init>") (dg : decode cc pc = .ok (.putfield 54, 3)) (ha : (eB E : Int) ≤ a) (hkd : kdw w a = 2) (hp : pc + 3 = pc') (K : GG X bc bs (upw w a 22 x) pc' lv st) : GG X bc bs w pc lv (vR x :: vR a :: st) := g_putF 22 h hname dg gc_X4 (by decide) q1540 (Or.inl rfl) rfl rfl trivial ha hkd hp K
theorem gf_X4_57 {a : Int} (h : Ok X E RX4 cc nL d) (dg : decode cc pc = .ok (.getfield 57, 3)) (ha : 0 ≤ a) (hkd : kdw w a = 2) (hp : pc + 3 = pc') (K : GG X bc bs w pc' lv (vR (rdw w a 23) :: st)) : GG X bc bs w pc lv (vR a :: st) := g_get 23 h dg gc_X4 (by decide) q1541 (Or.inl rfl) ha hkd hp K
theorem pf_X4_57 {a x : Int} (h : Ok X E RX4 cc nL d) (hname : (cH X).name = "<init>") (dg : decode cc pc = .ok (.putfield 57, 3)) (ha : (eB E : Int) ≤ a) (hkd : kdw w a = 2) (hp : pc + 3 = pc') (K : GG X bc bs (upw w a 23 x) pc' lv st) : GG X bc bs w pc lv (vR x :: vR a :: st) := g_putF 23 h hname dg gc_X4 (by decide) q1541 (Or.inl rfl) rfl rfl trivial ha hkd hp K
theorem gf_J9_17 {a : Int} (h : Ok X E RJ9 cc nL d) (dg : decode cc pc = .ok (.getfield 17, 3)) (ha : 0 ≤ a) (hkd : kdw w a = 9) (hp : pc + 3 = pc') (K : GG X bc bs w pc' lv (vR (rdw w a 0) :: st)) : GG X bc bs w pc lv (vR a :: st) := g_get 0 h dg gc_J9 (by decide) q308 (Or.inl rfl) ha hkd hp K
theorem pf_J9_17 {a x : Int} (h : Ok X E RJ9 cc nL d) (dg : decode cc pc = .ok (.putfield 17, 3)) (ha : (eB E : Int) ≤ a) (hkd : kdw w a = 9) (hp : pc + 3 = pc') (K : GG X bc bs (upw w a 0 x) pc' lv st) : GG X bc bs w pc lv (vR x :: vR a :: st) := g_put 0 h dg gc_J9 (by decide) q308 (Or.inl rfl) rfl trivial ha hkd hp K
theorem gf_J9_58 {a : Int} (h : Ok X E RJ9 cc nL d) (dg : decode cc pc = .ok (.getfield 58, 3)) (ha : 0 ≤ a) (hkd : kdw w a = 9) (hp : pc + 3 = pc') (K : GG X bc bs w pc' lv (vI (rdw w a 1) :: st)) : GG X bc bs w pc lv (vR a :: st) := g_get 1 h dg gc_J9 (by decide) q309 (Or.inl rfl) ha hkd hp K
theorem pf_J9_58 {a x : Int} (h : Ok X E RJ9 cc nL d) (dg : decode cc pc = .ok (.putfield 58, 3)) (ha : (eB E : Int) ≤ a) (hkd : kdw w a = 9) (hp : pc + 3 = pc') (K : GG X bc bs (upw w a 1 x) pc' lv st) : GG X bc bs w pc lv (vI x :: vR a :: st) := g_put 1 h dg gc_J9 (by decide) q309 (Or.inl rfl) rfl trivial ha hkd hp K
theorem gf_J9_21 {a : Int} (h : Ok X E RJ9 cc nL d) (dg : decode cc pc = .ok (.getfield 21, 3)) (ha : 0 ≤ a) (hkd : kdw w a = 9) (hp : pc + 3 = pc') (K : GG X bc bs w pc' lv (vR (rdw w a 2) :: st)) : GG X bc bs w pc lv (vR a :: st) := g_get 2 h dg gc_J9 (by decide) q310 (Or.inl rfl) ha hkd hp K
theorem pf_J9_21 {a x : Int} (h : Ok X E RJ9 cc nL d) (hname : (cH X).name = "<init>") (dg : decode cc pc = .ok (.putfield 21, 3)) (ha : (eB E : Int) ≤ a) (hkd : kdw w a = 9) (hp : pc + 3 = pc') (K : GG X bc bs (upw w a 2 x) pc' lv st) : GG X bc bs w pc lv (vR x :: vR a :: st) := g_putF 2 h hname dg gc_J9 (by decide) q310 (Or.inl rfl) rfl rfl trivial ha hkd hp K
theorem gf_J9_93 {a : Int} (h : Ok X E RJ9 cc nL d) (dg : decode cc pc = .ok (.getfield 93, 3)) (ha : 0 ≤ a) (hkd : kdw w a = 9) (hp : pc + 3 = pc') (K : GG X bc bs w pc' lv (vI (rdw w a 3) :: st)) : GG X bc bs w pc lv (vR a :: st) := g_get 3 h dg gc_J9 (by decide) q311 (Or.inl rfl) ha hkd hp K
theorem pf_J9_93 {a x : Int} (h : Ok X E RJ9 cc nL d) (dg : decode cc pc = .ok (.putfield 93, 3)) (ha : (eB E : Int) ≤ a) (hkd : kdw w a = 9) (hp : pc + 3 = pc') (K : GG X bc bs (upw w a 3 x) pc' lv st) : GG X bc bs w pc lv (vI x :: vR a :: st) := g_put 3 h dg gc_J9 (by decide) q311 (Or.inl rfl) rfl trivial ha hkd hp K
theorem gf_X1_7 {a : Int} (h : Ok X E RX1 cc nL d) (dg : decode cc pc = .ok (.getfield 7, 3)) (ha : 0 ≤ a) (hkd : kdw w a = 1) (hp : pc + 3 = pc') (K : GG X bc bs w pc' lv (vI (rdw w a 0) :: st)) : GG X bc bs w pc lv (vR a :: st) := g_get 0 h dg gc_X1 (by decide) q328 (Or.inl rfl) ha hkd hp K
theorem pf_X1_7 {a x : Int} (h : Ok X E RX1 cc nL d) (dg : decode cc pc = .ok (.putfield 7, 3)) (ha : (eB E : Int) ≤ a) (hkd : kdw w a = 1) (hp : pc + 3 = pc') (K : GG X bc bs (upw w a 0 x) pc' lv st) : GG X bc bs w pc lv (vI x :: vR a :: st) := g_put 0 h dg gc_X1 (by decide) q328 (Or.inl rfl) rfl trivial ha hkd hp K
theorem gf_X1_13 {a : Int} (h : Ok X E RX1 cc nL d) (dg : decode cc pc = .ok (.getfield 13, 3)) (ha : 0 ≤ a) (hkd : kdw w a = 1) (hp : pc + 3 = pc') (K : GG X bc bs w pc' lv (vI (rdw w a 1) :: st)) : GG X bc bs w pc lv (vR a :: st) := g_get 1 h dg gc_X1 (by decide) q329 (Or.inl rfl) ha hkd hp K
theorem pf_X1_13 {a x : Int} (h : Ok X E RX1 cc nL d) (dg : decode cc pc = .ok (.putfield 13, 3)) (ha : (eB E : Int) ≤ a) (hkd : kdw w a = 1) (hp : pc + 3 = pc') (K : GG X bc bs (upw w a 1 x) pc' lv st) : GG X bc bs w pc lv (vI x :: vR a :: st) := g_put 1 h dg gc_X1 (by decide) q329 (Or.inl rfl) rfl trivial ha hkd hp K
theorem gf_X1_20 {a : Int} (h : Ok X E RX1 cc nL d) (dg : decode cc pc = .ok (.getfield 20, 3)) (ha : 0 ≤ a) (hkd : kdw w a = 1) (hp : pc + 3 = pc') (K : GG X bc bs w pc' lv (vR (rdw w a 2) :: st)) : GG X bc bs w pc lv (vR a :: st) := g_get 2 h dg gc_X1 (by decide) q330 (Or.inl rfl) ha hkd hp K
theorem pf_X1_20 {a x : Int} (h : Ok X E RX1 cc nL d) (dg : decode cc pc = .ok (.putfield 20, 3)) (ha : (eB E : Int) ≤ a) (hkd : kdw w a = 1) (hp : pc + 3 = pc') (K : GG X bc bs (upw w a 2 x) pc' lv st) : GG X bc bs w pc lv (vR x :: vR a :: st) := g_put 2 h dg gc_X1 (by decide) q330 (Or.inl rfl) rfl trivial ha hkd hp K
theorem gf_X1_24 {a : Int} (h : Ok X E RX1 cc nL d) (dg : decode cc pc = .ok (.getfield 24, 3)) (ha : 0 ≤ a) (hkd : kdw w a = 1) (hp : pc + 3 = pc') (K : GG X bc bs w pc' lv (vI (rdw w a 3) :: st)) : GG X bc bs w pc lv (vR a :: st) := g_get 3 h dg gc_X1 (by decide) q331 (Or.inl rfl) ha hkd hp K
theorem pf_X1_24 {a x : Int} (h : Ok X E RX1 cc nL d) (dg : decode cc pc = .ok (.putfield 24, 3)) (ha : (eB E : Int) ≤ a) (hkd : kdw w a = 1) (hp : pc + 3 = pc') (K : GG X bc bs (upw w a 3 x) pc' lv st) : GG X bc bs w pc lv (vI x :: vR a :: st) := g_put 3 h dg gc_X1 (by decide) q331 (Or.inl rfl) rfl trivial ha hkd hp K
theorem gf_X1_27 {a : Int} (h : Ok X E RX1 cc nL d) (dg : decode cc pc = .ok (.getfield 27, 3)) (ha : 0 ≤ a) (hkd : kdw w a = 1) (hp : pc + 3 = pc') (K : GG X bc bs w pc' lv (vI (rdw w a 4) :: st)) : GG X bc bs w pc lv (vR a :: st) := g_get 4 h dg gc_X1 (by decide) q332 (Or.inl rfl) ha hkd hp K
theorem pf_X1_27 {a x : Int} (h : Ok X E RX1 cc nL d) (dg : decode cc pc = .ok (.putfield 27, 3)) (ha : (eB E : Int) ≤ a) (hkd : kdw w a = 1) (hp : pc + 3 = pc') (K : GG X bc bs (upw w a 4 x) pc' lv st) : GG X bc bs w pc lv (vI x :: vR a :: st) := g_put 4 h dg gc_X1 (by decide) q332 (Or.inl rfl) rfl trivial ha hkd hp K
theorem gf_X1_30 {a : Int} (h : Ok X E RX1 cc nL d) (dg : decode cc pc = .ok (.getfield 30, 3)) (ha : 0 ≤ a) (hkd : kdw w a = 1) (hp : pc + 3 = pc') (K : GG X bc bs w pc' lv (vR (rdw w a 5) :: st)) : GG X bc bs w pc lv (vR a :: st) := g_get 5 h dg gc_X1 (by decide) q333 (Or.inl rfl) ha hkd hp K
theorem pf_X1_30 {a x : Int} (h : Ok X E RX1 cc nL d) (dg : decode cc pc = .ok (.putfield 30, 3)) (ha : (eB E : Int) ≤ a) (hkd : kdw w a = 1) (hp : pc + 3 = pc') (K : GG X bc bs (upw w a 5 x) pc' lv st) : GG X bc bs w pc lv (vR x :: vR a :: st) := g_put 5 h dg gc_X1 (by decide) q333 (Or.inl rfl) rfl trivial ha hkd hp K
theorem gf_X1_237 {a : Int} (h : Ok X E RX1 cc nL d) (dg : decode cc pc = .ok (.getfield 237, 3)) (ha : 0 ≤ a) (hkd : kdw w a = 1) (hp : pc + 3 = pc') (K : GG X bc bs w pc' lv (vI (rdw w a 6) :: st)) : GG X bc bs w pc lv (vR a :: st) := g_get 6 h dg gc_X1 (by decide) q334 (Or.inl rfl) ha hkd hp K
theorem pf_X1_237 {a x : Int} (h : Ok X E RX1 cc nL d) (dg : decode cc pc = .ok (.putfield 237, 3)) (ha : (eB E : Int) ≤ a) (hkd : kdw w a = 1) (hp : pc + 3 = pc') (K : GG X bc bs (upw w a 6 x) pc' lv st) : GG X bc bs w pc lv (vI x :: vR a :: st) := g_put 6 h dg gc_X1 (by decide) q334 (Or.inl rfl) rfl trivial ha hkd hp K
theorem gf_X1_35 {a : Int} (h : Ok X E RX1 cc nL d) (dg : decode cc pc = .ok (.getfield 35, 3)) (ha : 0 ≤ a) (hkd : kdw w a = 1) (hp : pc + 3 = pc') (K : GG X bc bs w pc' lv (vR (rdw w a 7) :: st)) : GG X bc bs w pc lv (vR a :: st) := g_get 7 h dg gc_X1 (by decide) q335 (Or.inl rfl) ha hkd hp K
theorem pf_X1_35 {a x : Int} (h : Ok X E RX1 cc nL d) (hname : (cH X).name = "<init>") (dg : decode cc pc = .ok (.putfield 35, 3)) (ha : (eB E : Int) ≤ a) (hkd : kdw w a = 1) (hp : pc + 3 = pc') (K : GG X bc bs (upw w a 7 x) pc' lv st) : GG X bc bs w pc lv (vR x :: vR a :: st) := g_putF 7 h hname dg gc_X1 (by decide) q335 (Or.inl rfl) rfl rfl trivial ha hkd hp K
theorem gf_X1_38 {a : Int} (h : Ok X E RX1 cc nL d) (dg : decode cc pc = .ok (.getfield 38, 3)) (ha : 0 ≤ a) (hkd : kdw w a = 1) (hp : pc + 3 = pc') (K : GG X bc bs w pc' lv (vR (rdw w a 8) :: st)) : GG X bc bs w pc lv (vR a :: st) := g_get 8 h dg gc_X1 (by decide) q336 (Or.inl rfl) ha hkd hp K
theorem pf_X1_38 {a x : Int} (h : Ok X E RX1 cc nL d) (hname : (cH X).name = "<init>") (dg : decode cc pc = .ok (.putfield 38, 3)) (ha : (eB E : Int) ≤ a) (hkd : kdw w a = 1) (hp : pc + 3 = pc') (K : GG X bc bs (upw w a 8 x) pc' lv st) : GG X bc bs w pc lv (vR x :: vR a :: st) := g_putF 8 h hname dg gc_X1 (by decide) q336 (Or.inl rfl) rfl rfl trivial ha hkd hp K
theorem gf_X1_42 {a : Int} (h : Ok X E RX1 cc nL d) (dg : decode cc pc = .ok (.getfield 42, 3)) (ha : 0 ≤ a) (hkd : kdw w a = 1) (hp : pc + 3 = pc') (K : GG X bc bs w pc' lv (vR (rdw w a 9) :: st)) : GG X bc bs w pc lv (vR a :: st) := g_get 9 h dg gc_X1 (by decide) q337 (Or.inl rfl) ha hkd hp K
theorem pf_X1_42 {a x : Int} (h : Ok X E RX1 cc nL d) (hname : (cH X).name = "<init>") (dg : decode cc pc = .ok (.putfield 42, 3)) (ha : (eB E : Int) ≤ a) (hkd : kdw w a = 1) (hp : pc + 3 = pc') (K : GG X bc bs (upw w a 9 x) pc' lv st) : GG X bc bs w pc lv (vR x :: vR a :: st) := g_putF 9 h hname dg gc_X1 (by decide) q337 (Or.inl rfl) rfl rfl trivial ha hkd hp K
theorem gf_X1_45 {a : Int} (h : Ok X E RX1 cc nL d) (dg : decode cc pc = .ok (.getfield 45, 3)) (ha : 0 ≤ a) (hkd : kdw w a = 1) (hp : pc + 3 = pc') (K : GG X bc bs w pc' lv (vR (rdw w a 10) :: st)) : GG X bc bs w pc lv (vR a :: st) := g_get 10 h dg gc_X1 (by decide) q338 (Or.inl rfl) ha hkd hp K
theorem pf_X1_45 {a x : Int} (h : Ok X E RX1 cc nL d) (hname : (cH X).name = "<init>") (dg : decode cc pc = .ok (.putfield 45, 3)) (ha : (eB E : Int) ≤ a) (hkd : kdw w a = 1) (hp : pc + 3 = pc') (K : GG X bc bs (upw w a 10 x) pc' lv st) : GG X bc bs w pc lv (vR x :: vR a :: st) := g_putF 10 h hname dg gc_X1 (by decide) q338 (Or.inl rfl) rfl rfl trivial ha hkd hp K
theorem gf_X1_48 {a : Int} (h : Ok X E RX1 cc nL d) (dg : decode cc pc = .ok (.getfield 48, 3)) (ha : 0 ≤ a) (hkd : kdw w a = 1) (hp : pc + 3 = pc') (K : GG X bc bs w pc' lv (vR (rdw w a 11) :: st)) : GG X bc bs w pc lv (vR a :: st) := g_get 11 h dg gc_X1 (by decide) q339 (Or.inl rfl) ha hkd hp K
theorem pf_X1_48 {a x : Int} (h : Ok X E RX1 cc nL d) (hname : (cH X).name = "<init>") (dg : decode cc pc = .ok (.putfield 48, 3)) (ha : (eB E : Int) ≤ a) (hkd : kdw w a = 1) (hp : pc + 3 = pc') (K : GG X bc bs (upw w a 11 x) pc' lv st) : GG X bc bs w pc lv (vR x :: vR a :: st) := g_putF 11 h hname dg gc_X1 (by decide) q339 (Or.inl rfl) rfl rfl trivial ha hkd hp K
theorem gf_X1_51 {a : Int} (h : Ok X E RX1 cc nL d) (dg : decode cc pc = .ok (.getfield 51, 3)) (ha : 0 ≤ a) (hkd : kdw w a = 1) (hp : pc + 3 = pc') (K : GG X bc bs w pc' lv (vR (rdw w a 12) :: st)) : GG X bc bs w pc lv (vR a :: st) := g_get 12 h dg gc_X1 (by decide) q340 (Or.inl rfl) ha hkd hp K
theorem pf_X1_51 {a x : Int} (h : Ok X E RX1 cc nL d) (hname : (cH X).name = "<init>") (dg : decode cc pc = .ok (.putfield 51, 3)) (ha : (eB E : Int) ≤ a) (hkd : kdw w a = 1) (hp : pc + 3 = pc') (K : GG X bc bs (upw w a 12 x) pc' lv st) : GG X bc bs w pc lv (vR x :: vR a :: st) := g_putF 12 h hname dg gc_X1 (by decide) q340 (Or.inl rfl) rfl rfl trivial ha hkd hp K
theorem gf_X1_54 {a : Int} (h : Ok X E RX1 cc nL d) (dg : decode cc pc = .ok (.getfield 54, 3)) (ha : 0 ≤ a) (hkd : kdw w a = 1) (hp : pc + 3 = pc') (K : GG X bc bs w pc' lv (vR (rdw w a 13) :: st)) : GG X bc bs w pc lv (vR a :: st) := g_get 13 h dg gc_X1 (by decide) q341 (Or.inl rfl) ha hkd hp K
theorem pf_X1_54 {a x : Int} (h : Ok X E RX1 cc nL d) (hname : (cH X).name = "<init>") (dg : decode cc pc = .ok (.putfield 54, 3)) (ha : (eB E : Int) ≤ a) (hkd : kdw w a = 1) (hp : pc + 3 = pc') (K : GG X bc bs (upw w a 13 x) pc' lv st) : GG X bc bs w pc lv (vR x :: vR a :: st) := g_putF 13 h hname dg gc_X1 (by decide) q341 (Or.inl rfl) rfl rfl trivial ha hkd hp K
theorem gf_X1_57 {a : Int} (h : Ok X E RX1 cc nL d) (dg : decode cc pc = .ok (.getfield 57, 3)) (ha : 0 ≤ a) (hkd : kdw w a = 1) (hp : pc + 3 = pc') (K : GG X bc bs w pc' lv (vR (rdw w a 14) :: st)) : GG X bc bs w pc lv (vR a :: st) := g_get 14 h dg gc_X1 (by decide) q342 (Or.inl rfl) ha hkd hp K
theorem pf_X1_57 {a x : Int} (h : Ok X E RX1 cc nL d) (hname : (cH X).name = "<init>") (dg : decode cc pc = .ok (.putfield 57, 3)) (ha : (eB E : Int) ≤ a) (hkd : kdw w a = 1) (hp : pc + 3 = pc') (K : GG X bc bs (upw w a 14 x) pc' lv st) : GG X bc bs w pc lv (vR x :: vR a :: st) := g_putF 14 h hname dg gc_X1 (by decide) q342 (Or.inl rfl) rfl rfl trivial ha hkd hp K
theorem gf_X1_69 {a : Int} (h : Ok X E RX1 cc nL d) (dg : decode cc pc = .ok (.getfield 69, 3)) (ha : 0 ≤ a) (hkd : kdw w a = 1) (hp : pc + 3 = pc') (K : GG X bc bs w pc' lv (vR (rdw w a 15) :: st)) : GG X bc bs w pc lv (vR a :: st) := g_get 15 h dg gc_X1 (by decide) q343 (Or.inl rfl) ha hkd hp K
theorem pf_X1_69 {a x : Int} (h : Ok X E RX1 cc nL d) (hname : (cH X).name = "<init>") (dg : decode cc pc = .ok (.putfield 69, 3)) (ha : (eB E : Int) ≤ a) (hkd : kdw w a = 1) (hp : pc + 3 = pc') (K : GG X bc bs (upw w a 15 x) pc' lv st) : GG X bc bs w pc lv (vR x :: vR a :: st) := g_putF 15 h hname dg gc_X1 (by decide) q343 (Or.inl rfl) rfl rfl trivial ha hkd hp K
theorem gf_X1_244 {a : Int} (h : Ok X E RX1 cc nL d) (dg : decode cc pc = .ok (.getfield 244, 3)) (ha : 0 ≤ a) (hkd : kdw w a = 1) (hp : pc + 3 = pc') (K : GG X bc bs w pc' lv (vI (rdw w a 16) :: st)) : GG X bc bs w pc lv (vR a :: st) := g_get 16 h dg gc_X1 (by decide) q344 (Or.inl rfl) ha hkd hp K
theorem pf_X1_244 {a x : Int} (h : Ok X E RX1 cc nL d) (dg : decode cc pc = .ok (.putfield 244, 3)) (ha : (eB E : Int) ≤ a) (hkd : kdw w a = 1) (hp : pc + 3 = pc') (K : GG X bc bs (upw w a 16 x) pc' lv st) : GG X bc bs w pc lv (vI x :: vR a :: st) := g_put 16 h dg gc_X1 (by decide) q344 (Or.inl rfl) rfl trivial ha hkd hp K
theorem gf_X1_73 {a : Int} (h : Ok X E RX1 cc nL d) (dg : decode cc pc = .ok (.getfield 73, 3)) (ha : 0 ≤ a) (hkd : kdw w a = 1) (hp : pc + 3 = pc') (K : GG X bc bs w pc' lv (vR (rdw w a 17) :: st)) : GG X bc bs w pc lv (vR a :: st) := g_get 17 h dg gc_X1 (by decide) q345 (Or.inl rfl) ha hkd hp K
theorem pf_X1_73 {a x : Int} (h : Ok X E RX1 cc nL d) (hname : (cH X).name = "<init>") (dg : decode cc pc = .ok (.putfield 73, 3)) (ha : (eB E : Int) ≤ a) (hkd : kdw w a = 1) (hp : pc + 3 = pc') (K : GG X bc bs (upw w a 17 x) pc' lv st) : GG X bc bs w pc lv (vR x :: vR a :: st) := g_putF 17 h hname dg gc_X1 (by decide) q345 (Or.inl rfl) rfl rfl trivial ha hkd hp K
theorem gf_X1_76 {a : Int} (h : Ok X E RX1 cc nL d) (dg : decode cc pc = .ok (.getfield 76, 3)) (ha : 0 ≤ a) (hkd : kdw w a = 1) (hp : pc + 3 = pc') (K : GG X bc bs w pc' lv (vR (rdw w a 18) :: st)) : GG X bc bs w pc lv (vR a :: st) := g_get 18 h dg gc_X1 (by decide) q346 (Or.inl rfl) ha hkd hp K
theorem pf_X1_76 {a x : Int} (h : Ok X E RX1 cc nL d) (hname : (cH X).name = "<init>") (dg : decode cc pc = .ok (.putfield 76, 3)) (ha : (eB E : Int) ≤ a) (hkd : kdw w a = 1) (hp : pc + 3 = pc') (K : GG X bc bs (upw w a 18 x) pc' lv st) : GG X bc bs w pc lv (vR x :: vR a :: st) := g_putF 18 h hname dg gc_X1 (by decide) q346 (Or.inl rfl) rfl rfl trivial ha hkd hp K
theorem gf_X1_79 {a : Int} (h : Ok X E RX1 cc nL d) (dg : decode cc pc = .ok (.getfield 79, 3)) (ha : 0 ≤ a) (hkd : kdw w a = 1) (hp : pc + 3 = pc') (K : GG X bc bs w pc' lv (vR (rdw w a 19) :: st)) : GG X bc bs w pc lv (vR a :: st) := g_get 19 h dg gc_X1 (by decide) q347 (Or.inl rfl) ha hkd hp K
theorem pf_X1_79 {a x : Int} (h : Ok X E RX1 cc nL d) (hname : (cH X).name = "<init>") (dg : decode cc pc = .ok (.putfield 79, 3)) (ha : (eB E : Int) ≤ a) (hkd : kdw w a = 1) (hp : pc + 3 = pc') (K : GG X bc bs (upw w a 19 x) pc' lv st) : GG X bc bs w pc lv (vR x :: vR a :: st) := g_putF 19 h hname dg gc_X1 (by decide) q347 (Or.inl rfl) rfl rfl trivial ha hkd hp K
theorem gf_X1_85 {a : Int} (h : Ok X E RX1 cc nL d) (dg : decode cc pc = .ok (.getfield 85, 3)) (ha : 0 ≤ a) (hkd : kdw w a = 1) (hp : pc + 3 = pc') (K : GG X bc bs w pc' lv (vR (rdw w a 20) :: st)) : GG X bc bs w pc lv (vR a :: st) := g_get 20 h dg gc_X1 (by decide) q348 (Or.inl rfl) ha hkd hp K
theorem pf_X1_85 {a x : Int} (h : Ok X E RX1 cc nL d) (hname : (cH X).name = "<init>") (dg : decode cc pc = .ok (.putfield 85, 3)) (ha : (eB E : Int) ≤ a) (hkd : kdw w a = 1) (hp : pc + 3 = pc') (K : GG X bc bs (upw w a 20 x) pc' lv st) : GG X bc bs w pc lv (vR x :: vR a :: st) := g_putF 20 h hname dg gc_X1 (by decide) q348 (Or.inl rfl) rfl rfl trivial ha hkd hp K
theorem gf_X1_88 {a : Int} (h : Ok X E RX1 cc nL d) (dg : decode cc pc = .ok (.getfield 88, 3)) (ha : 0 ≤ a) (hkd : kdw w a = 1) (hp : pc + 3 = pc') (K : GG X bc bs w pc' lv (vR (rdw w a 21) :: st)) : GG X bc bs w pc lv (vR a :: st) := g_get 21 h dg gc_X1 (by decide) q349 (Or.inl rfl) ha hkd hp K
theorem pf_X1_88 {a x : Int} (h : Ok X E RX1 cc nL d) (hname : (cH X).name = "<init>") (dg : decode cc pc = .ok (.putfield 88, 3)) (ha : (eB E : Int) ≤ a) (hkd : kdw w a = 1) (hp : pc + 3 = pc') (K : GG X bc bs (upw w a 21 x) pc' lv st) : GG X bc bs w pc lv (vR x :: vR a :: st) := g_putF 21 h hname dg gc_X1 (by decide) q349 (Or.inl rfl) rfl rfl trivial ha hkd hp K
theorem gf_X1_316 {a : Int} (h : Ok X E RX1 cc nL d) (dg : decode cc pc = .ok (.getfield 316, 3)) (ha : 0 ≤ a) (hkd : kdw w a = 1) (hp : pc + 3 = pc') (K : GG X bc bs w pc' lv (vI (rdw w a 22) :: st)) : GG X bc bs w pc lv (vR a :: st) := g_get 22 h dg gc_X1 (by decide) q350 (Or.inl rfl) ha hkd hp K
theorem pf_X1_316 {a x : Int} (h : Ok X E RX1 cc nL d) (dg : decode cc pc = .ok (.putfield 316, 3)) (ha : (eB E : Int) ≤ a) (hkd : kdw w a = 1) (hp : pc + 3 = pc') (K : GG X bc bs (upw w a 22 x) pc' lv st) : GG X bc bs w pc lv (vI x :: vR a :: st) := g_put 22 h dg gc_X1 (by decide) q350 (Or.inl rfl) rfl trivial ha hkd hp K
theorem gf_X1_147 {a : Int} (h : Ok X E RX1 cc nL d) (dg : decode cc pc = .ok (.getfield 147, 3)) (ha : 0 ≤ a) (hkd : kdw w a = 1) (hp : pc + 3 = pc') (K : GG X bc bs w pc' lv (vI (rdw w a 23) :: st)) : GG X bc bs w pc lv (vR a :: st) := g_get 23 h dg gc_X1 (by decide) q351 (Or.inl rfl) ha hkd hp K
theorem pf_X1_147 {a x : Int} (h : Ok X E RX1 cc nL d) (dg : decode cc pc = .ok (.putfield 147, 3)) (hv : x = 0 ∨ x = 1) (ha : (eB E : Int) ≤ a) (hkd : kdw w a = 1) (hp : pc + 3 = pc') (K : GG X bc bs (upw w a 23 x) pc' lv st) : GG X bc bs w pc lv (vI x :: vR a :: st) := g_put 23 h dg gc_X1 (by decide) q351 (Or.inl rfl) rfl hv ha hkd hp K
theorem gf_X1_151 {a : Int} (h : Ok X E RX1 cc nL d) (dg : decode cc pc = .ok (.getfield 151, 3)) (ha : 0 ≤ a) (hkd : kdw w a = 1) (hp : pc + 3 = pc') (K : GG X bc bs w pc' lv (vI (rdw w a 24) :: st)) : GG X bc bs w pc lv (vR a :: st) := g_get 24 h dg gc_X1 (by decide) q352 (Or.inl rfl) ha hkd hp K
theorem pf_X1_151 {a x : Int} (h : Ok X E RX1 cc nL d) (dg : decode cc pc = .ok (.putfield 151, 3)) (ha : (eB E : Int) ≤ a) (hkd : kdw w a = 1) (hp : pc + 3 = pc') (K : GG X bc bs (upw w a 24 x) pc' lv st) : GG X bc bs w pc lv (vI x :: vR a :: st) := g_put 24 h dg gc_X1 (by decide) q352 (Or.inl rfl) rfl trivial ha hkd hp K
theorem gf_X1_154 {a : Int} (h : Ok X E RX1 cc nL d) (dg : decode cc pc = .ok (.getfield 154, 3)) (ha : 0 ≤ a) (hkd : kdw w a = 1) (hp : pc + 3 = pc') (K : GG X bc bs w pc' lv (vI (rdw w a 25) :: st)) : GG X bc bs w pc lv (vR a :: st) := g_get 25 h dg gc_X1 (by decide) q353 (Or.inl rfl) ha hkd hp K
theorem pf_X1_154 {a x : Int} (h : Ok X E RX1 cc nL d) (dg : decode cc pc = .ok (.putfield 154, 3)) (ha : (eB E : Int) ≤ a) (hkd : kdw w a = 1) (hp : pc + 3 = pc') (K : GG X bc bs (upw w a 25 x) pc' lv st) : GG X bc bs w pc lv (vI x :: vR a :: st) := g_put 25 h dg gc_X1 (by decide) q353 (Or.inl rfl) rfl trivial ha hkd hp K
theorem gf_J19_25 {a : Int} (h : Ok X E RJ19 cc nL d) (dg : decode cc pc = .ok (.getfield 25, 3)) (ha : 0 ≤ a) (hkd : kdw w a = 8) (hp : pc + 3 = pc') (K : GG X bc bs w pc' lv (vI (rdw w a 0) :: st)) : GG X bc bs w pc lv (vR a :: st) := g_get 0 h dg gc_J19 (by decide) q424 (Or.inl rfl) ha hkd hp K
theorem pf_J19_25 {a x : Int} (h : Ok X E RJ19 cc nL d) (dg : decode cc pc = .ok (.putfield 25, 3)) (ha : (eB E : Int) ≤ a) (hkd : kdw w a = 8) (hp : pc + 3 = pc') (K : GG X bc bs (upw w a 0 x) pc' lv st) : GG X bc bs w pc lv (vI x :: vR a :: st) := g_put 0 h dg gc_J19 (by decide) q424 (Or.inl rfl) rfl trivial ha hkd hp K
theorem gf_J19_13 {a : Int} (h : Ok X E RJ19 cc nL d) (dg : decode cc pc = .ok (.getfield 13, 3)) (ha : 0 ≤ a) (hkd : kdw w a = 8) (hp : pc + 3 = pc') (K : GG X bc bs w pc' lv (vI (rdw w a 1) :: st)) : GG X bc bs w pc lv (vR a :: st) := g_get 1 h dg gc_J19 (by decide) q425 (Or.inl rfl) ha hkd hp K
theorem pf_J19_13 {a x : Int} (h : Ok X E RJ19 cc nL d) (dg : decode cc pc = .ok (.putfield 13, 3)) (ha : (eB E : Int) ≤ a) (hkd : kdw w a = 8) (hp : pc + 3 = pc') (K : GG X bc bs (upw w a 1 x) pc' lv st) : GG X bc bs w pc lv (vI x :: vR a :: st) := g_put 1 h dg gc_J19 (by decide) q425 (Or.inl rfl) rfl trivial ha hkd hp K
theorem gf_J19_22 {a : Int} (h : Ok X E RJ19 cc nL d) (dg : decode cc pc = .ok (.getfield 22, 3)) (ha : 0 ≤ a) (hkd : kdw w a = 8) (hp : pc + 3 = pc') (K : GG X bc bs w pc' lv (vI (rdw w a 2) :: st)) : GG X bc bs w pc lv (vR a :: st) := g_get 2 h dg gc_J19 (by decide) q426 (Or.inl rfl) ha hkd hp K
theorem pf_J19_22 {a x : Int} (h : Ok X E RJ19 cc nL d) (dg : decode cc pc = .ok (.putfield 22, 3)) (ha : (eB E : Int) ≤ a) (hkd : kdw w a = 8) (hp : pc + 3 = pc') (K : GG X bc bs (upw w a 2 x) pc' lv st) : GG X bc bs w pc lv (vI x :: vR a :: st) := g_put 2 h dg gc_J19 (by decide) q426 (Or.inl rfl) rfl trivial ha hkd hp K
theorem gf_J19_1 {a : Int} (h : Ok X E RJ19 cc nL d) (dg : decode cc pc = .ok (.getfield 1, 3)) (ha : 0 ≤ a) (hkd : kdw w a = 8) (hp : pc + 3 = pc') (K : GG X bc bs w pc' lv (vR (rdw w a 3) :: st)) : GG X bc bs w pc lv (vR a :: st) := g_get 3 h dg gc_J19 (by decide) q427 (Or.inl rfl) ha hkd hp K
theorem pf_J19_1 {a x : Int} (h : Ok X E RJ19 cc nL d) (hname : (cH X).name = "<init>") (dg : decode cc pc = .ok (.putfield 1, 3)) (ha : (eB E : Int) ≤ a) (hkd : kdw w a = 8) (hp : pc + 3 = pc') (K : GG X bc bs (upw w a 3 x) pc' lv st) : GG X bc bs w pc lv (vR x :: vR a :: st) := g_putF 3 h hname dg gc_J19 (by decide) q427 (Or.inl rfl) rfl rfl trivial ha hkd hp K
theorem gf_X5_7 {a : Int} (h : Ok X E RX5 cc nL d) (dg : decode cc pc = .ok (.getfield 7, 3)) (ha : 0 ≤ a) (hkd : kdw w a = 3) (hp : pc + 3 = pc') (K : GG X bc bs w pc' lv (vI (rdw w a 0) :: st)) : GG X bc bs w pc lv (vR a :: st) := g_get 0 h dg gc_X5 (by decide) q589 (Or.inl rfl) ha hkd hp K
theorem pf_X5_7 {a x : Int} (h : Ok X E RX5 cc nL d) (hname : (cH X).name = "<init>") (dg : decode cc pc = .ok (.putfield 7, 3)) (ha : (eB E : Int) ≤ a) (hkd : kdw w a = 3) (hp : pc + 3 = pc') (K : GG X bc bs (upw w a 0 x) pc' lv st) : GG X bc bs w pc lv (vI x :: vR a :: st) := g_putF 0 h hname dg gc_X5 (by decide) q589 (Or.inl rfl) rfl rfl trivial ha hkd hp K
theorem gf_X5_13 {a : Int} (h : Ok X E RX5 cc nL d) (dg : decode cc pc = .ok (.getfield 13, 3)) (ha : 0 ≤ a) (hkd : kdw w a = 3) (hp : pc + 3 = pc') (K : GG X bc bs w pc' lv (vI (rdw w a 1) :: st)) : GG X bc bs w pc lv (vR a :: st) := g_get 1 h dg gc_X5 (by decide) q591 (Or.inl rfl) ha hkd hp K
theorem pf_X5_13 {a x : Int} (h : Ok X E RX5 cc nL d) (hname : (cH X).name = "<init>") (dg : decode cc pc = .ok (.putfield 13, 3)) (ha : (eB E : Int) ≤ a) (hkd : kdw w a = 3) (hp : pc + 3 = pc') (K : GG X bc bs (upw w a 1 x) pc' lv st) : GG X bc bs w pc lv (vI x :: vR a :: st) := g_putF 1 h hname dg gc_X5 (by decide) q591 (Or.inl rfl) rfl rfl trivial ha hkd hp K
theorem gf_X5_16 {a : Int} (h : Ok X E RX5 cc nL d) (dg : decode cc pc = .ok (.getfield 16, 3)) (ha : 0 ≤ a) (hkd : kdw w a = 3) (hp : pc + 3 = pc') (K : GG X bc bs w pc' lv (vI (rdw w a 2) :: st)) : GG X bc bs w pc lv (vR a :: st) := g_get 2 h dg gc_X5 (by decide) q593 (Or.inl rfl) ha hkd hp K
theorem pf_X5_16 {a x : Int} (h : Ok X E RX5 cc nL d) (hname : (cH X).name = "<init>") (dg : decode cc pc = .ok (.putfield 16, 3)) (ha : (eB E : Int) ≤ a) (hkd : kdw w a = 3) (hp : pc + 3 = pc') (K : GG X bc bs (upw w a 2 x) pc' lv st) : GG X bc bs w pc lv (vI x :: vR a :: st) := g_putF 2 h hname dg gc_X5 (by decide) q593 (Or.inl rfl) rfl rfl trivial ha hkd hp K
theorem gf_J19_28 {a : Int} (h : Ok X E RJ19 cc nL d) (dg : decode cc pc = .ok (.getfield 28, 3)) (ha : 0 ≤ a) (hkd : kdw w a = 7) (hp : pc + 3 = pc') (K : GG X bc bs w pc' lv (vI (rdw w a 2) :: st)) : GG X bc bs w pc lv (vR a :: st) := g_getN (ref := "java/util/ArrayList") (host := "java/util/ArrayList") (nm := "size") (ds := "I") 2 h dg gc_J2 (by decide) (by decide +kernel) ⟨rfl, rfl⟩ (Or.inl rfl) ha hkd hp K
theorem gf_X3_7 {a : Int} (h : Ok X E RX3 cc nL d) (dg : decode cc pc = .ok (.getfield 7, 3)) (ha : 0 ≤ a) (hkd : kdw w a = 4) (hp : pc + 3 = pc') (K : GG X bc bs w pc' lv (vI (rdw w a 0) :: st)) : GG X bc bs w pc lv (vR a :: st) := g_getN (ref := "ChoreAssignment$Part") (host := "ChoreAssignment") (nm := "bound") (ds := "I") 0 h dg gc_X6 (by decide) (by decide +kernel) ⟨rfl, rfl⟩ (Or.inl rfl) ha hkd hp K
theorem gf_X1_327 {a : Int} (h : Ok X E RX1 cc nL d) (dg : decode cc pc = .ok (.getfield 327, 3)) (ha : 0 ≤ a) (hkd : kdw w a = 4) (hp : pc + 3 = pc') (K : GG X bc bs w pc' lv (vI (rdw w a 0) :: st)) : GG X bc bs w pc lv (vR a :: st) := g_getN (ref := "ChoreAssignment$Part") (host := "ChoreAssignment") (nm := "bound") (ds := "I") 0 h dg gc_X6 (by decide) (by decide +kernel) ⟨rfl, rfl⟩ (Or.inl rfl) ha hkd hp K
theorem gf_X3_19 {a : Int} (h : Ok X E RX3 cc nL d) (dg : decode cc pc = .ok (.getfield 19, 3)) (ha : 0 ≤ a) (hkd : kdw w a = 4) (hp : pc + 3 = pc') (K : GG X bc bs w pc' lv (vI (rdw w a 1) :: st)) : GG X bc bs w pc lv (vR a :: st) := g_getN (ref := "ChoreAssignment$Part") (host := "ChoreAssignment") (nm := "rows") (ds := "I") 1 h dg gc_X6 (by decide) (by decide +kernel) ⟨rfl, rfl⟩ (Or.inl rfl) ha hkd hp K
theorem gf_X1_330 {a : Int} (h : Ok X E RX1 cc nL d) (dg : decode cc pc = .ok (.getfield 330, 3)) (ha : 0 ≤ a) (hkd : kdw w a = 4) (hp : pc + 3 = pc') (K : GG X bc bs w pc' lv (vI (rdw w a 1) :: st)) : GG X bc bs w pc lv (vR a :: st) := g_getN (ref := "ChoreAssignment$Part") (host := "ChoreAssignment") (nm := "rows") (ds := "I") 1 h dg gc_X6 (by decide) (by decide +kernel) ⟨rfl, rfl⟩ (Or.inl rfl) ha hkd hp K
theorem gf_X3_22 {a : Int} (h : Ok X E RX3 cc nL d) (dg : decode cc pc = .ok (.getfield 22, 3)) (ha : 0 ≤ a) (hkd : kdw w a = 4) (hp : pc + 3 = pc') (K : GG X bc bs w pc' lv (vI (rdw w a 2) :: st)) : GG X bc bs w pc lv (vR a :: st) := g_getN (ref := "ChoreAssignment$Part") (host := "ChoreAssignment") (nm := "code") (ds := "I") 2 h dg gc_X6 (by decide) (by decide +kernel) ⟨rfl, rfl⟩ (Or.inl rfl) ha hkd hp K
theorem gf_X1_333 {a : Int} (h : Ok X E RX1 cc nL d) (dg : decode cc pc = .ok (.getfield 333, 3)) (ha : 0 ≤ a) (hkd : kdw w a = 4) (hp : pc + 3 = pc') (K : GG X bc bs w pc' lv (vI (rdw w a 2) :: st)) : GG X bc bs w pc lv (vR a :: st) := g_getN (ref := "ChoreAssignment$Part") (host := "ChoreAssignment") (nm := "code") (ds := "I") 2 h dg gc_X6 (by decide) (by decide +kernel) ⟨rfl, rfl⟩ (Or.inl rfl) ha hkd hp K
theorem gf_X1_324 {a : Int} (h : Ok X E RX1 cc nL d) (dg : decode cc pc = .ok (.getfield 324, 3)) (ha : 0 ≤ a) (hkd : kdw w a = 4) (hp : pc + 3 = pc') (K : GG X bc bs w pc' lv (vI (rdw w a 3) :: st)) : GG X bc bs w pc lv (vR a :: st) := g_getN (ref := "ChoreAssignment$Part") (host := "ChoreAssignment") (nm := "used") (ds := "I") 3 h dg gc_X6 (by decide) (by decide +kernel) ⟨rfl, rfl⟩ (Or.inl rfl) ha hkd hp K
theorem gf_X2_7 {a : Int} (h : Ok X E RX2 cc nL d) (dg : decode cc pc = .ok (.getfield 7, 3)) (ha : 0 ≤ a) (hkd : kdw w a = 3) (hp : pc + 3 = pc') (K : GG X bc bs w pc' lv (vI (rdw w a 0) :: st)) : GG X bc bs w pc lv (vR a :: st) := g_getN (ref := "ChoreAssignment$Way") (host := "ChoreAssignment") (nm := "cost") (ds := "I") 0 h dg gc_X5 (by decide) (by decide +kernel) ⟨rfl, rfl⟩ (Or.inl rfl) ha hkd hp K
theorem gf_X2_19 {a : Int} (h : Ok X E RX2 cc nL d) (dg : decode cc pc = .ok (.getfield 19, 3)) (ha : 0 ≤ a) (hkd : kdw w a = 3) (hp : pc + 3 = pc') (K : GG X bc bs w pc' lv (vI (rdw w a 1) :: st)) : GG X bc bs w pc lv (vR a :: st) := g_getN (ref := "ChoreAssignment$Way") (host := "ChoreAssignment") (nm := "order") (ds := "I") 1 h dg gc_X5 (by decide) (by decide +kernel) ⟨rfl, rfl⟩ (Or.inl rfl) ha hkd hp K
theorem gf_X1_259 {a : Int} (h : Ok X E RX1 cc nL d) (dg : decode cc pc = .ok (.getfield 259, 3)) (ha : 0 ≤ a) (hkd : kdw w a = 3) (hp : pc + 3 = pc') (K : GG X bc bs w pc' lv (vI (rdw w a 2) :: st)) : GG X bc bs w pc lv (vR a :: st) := g_getN (ref := "ChoreAssignment$Way") (host := "ChoreAssignment") (nm := "end") (ds := "I") 2 h dg gc_X5 (by decide) (by decide +kernel) ⟨rfl, rfl⟩ (Or.inl rfl) ha hkd hp K
end LK
abbrev mJ0_init : Mth := (yJ0_init, cJ0_init, 1, (Option.none : Option Jvm.ClassFile.FieldType))
abbrev mJ1_init : Mth := (yJ1_init, cJ1_init, 1, (Option.none : Option Jvm.ClassFile.FieldType))
abbrev mJ17_checkIndex : Mth := (yJ17_checkIndex, cJ17_checkIndex, 2, (Option.some Jvm.ClassFile.FieldType.int))
abbrev mJ18_checkIndex : Mth := (yJ18_checkIndex, cJ18_checkIndex, 3, (Option.some Jvm.ClassFile.FieldType.int))
abbrev mJ18_checkFromToIndex : Mth := (yJ18_checkFromToIndex, cJ18_checkFromToIndex, 4, (Option.some Jvm.ClassFile.FieldType.int))
abbrev mJ18_checkFromIndexSize : Mth := (yJ18_checkFromIndexSize, cJ18_checkFromIndexSize, 4, (Option.some Jvm.ClassFile.FieldType.int))
abbrev mJ19_init : Mth := (yJ19_init, cJ19_init, 2, (Option.none : Option Jvm.ClassFile.FieldType))
abbrev mJ19_hasNext : Mth := (yJ19_hasNext, cJ19_hasNext, 1, (Option.some Jvm.ClassFile.FieldType.boolean))
abbrev mJ19_next : Mth := (yJ19_next, cJ19_next, 3, (Option.some (Jvm.ClassFile.FieldType.object "java/lang/Object")))
abbrev mJ19_checkForComodification : Mth := (yJ19_checkForComodification, cJ19_checkForComodification, 1, (Option.none : Option Jvm.ClassFile.FieldType))
abbrev mJ2_init : Mth := (yJ2_init, cJ2_init, 1, (Option.none : Option Jvm.ClassFile.FieldType))
abbrev mJ2_add : Mth := (yJ2_add, cJ2_add, 2, (Option.some Jvm.ClassFile.FieldType.boolean))
abbrev mJ2_add_2 : Mth := (yJ2_add_2, cJ2_add_2, 4, (Option.none : Option Jvm.ClassFile.FieldType))
abbrev mJ2_grow : Mth := (yJ2_grow, cJ2_grow, 1, (Option.some (Jvm.ClassFile.FieldType.array (Jvm.ClassFile.FieldType.object "java/lang/Object"))))
abbrev mJ2_grow_2 : Mth := (yJ2_grow_2, cJ2_grow_2, 4, (Option.some (Jvm.ClassFile.FieldType.array (Jvm.ClassFile.FieldType.object "java/lang/Object"))))
abbrev mJ2_iterator : Mth := (yJ2_iterator, cJ2_iterator, 1, (Option.some (Jvm.ClassFile.FieldType.object "java/util/Iterator")))
abbrev mJ2_get : Mth := (yJ2_get, cJ2_get, 2, (Option.some (Jvm.ClassFile.FieldType.object "java/lang/Object")))
abbrev mJ2_elementData : Mth := (yJ2_elementData, cJ2_elementData, 2, (Option.some (Jvm.ClassFile.FieldType.object "java/lang/Object")))
abbrev mJ2_set : Mth := (yJ2_set, cJ2_set, 4, (Option.some (Jvm.ClassFile.FieldType.object "java/lang/Object")))
abbrev mJ2_remove : Mth := (yJ2_remove, cJ2_remove, 4, (Option.some (Jvm.ClassFile.FieldType.object "java/lang/Object")))
abbrev mJ2_fastRemove : Mth := (yJ2_fastRemove, cJ2_fastRemove, 4, (Option.none : Option Jvm.ClassFile.FieldType))
abbrev mJ2_add_3 : Mth := (yJ2_add_3, cJ2_add_3, 5, (Option.none : Option Jvm.ClassFile.FieldType))
abbrev mJ2_rangeCheckForAdd : Mth := (yJ2_rangeCheckForAdd, cJ2_rangeCheckForAdd, 2, (Option.none : Option Jvm.ClassFile.FieldType))
abbrev mJ2_outOfBoundsMsg : Mth := (yJ2_outOfBoundsMsg, cJ2_outOfBoundsMsg, 2, (Option.some (Jvm.ClassFile.FieldType.object "java/lang/String")))
abbrev mJ4_valueOf : Mth := (yJ4_valueOf, cJ4_valueOf, 1, (Option.some (Jvm.ClassFile.FieldType.object "java/lang/Integer")))
abbrev mJ4_init : Mth := (yJ4_init, cJ4_init, 2, (Option.none : Option Jvm.ClassFile.FieldType))
abbrev mJ4_intValue : Mth := (yJ4_intValue, cJ4_intValue, 1, (Option.some Jvm.ClassFile.FieldType.int))
abbrev mJ4_compare : Mth := (yJ4_compare, cJ4_compare, 2, (Option.some Jvm.ClassFile.FieldType.int))
abbrev mJ4_compareTo : Mth := (yJ4_compareTo, cJ4_compareTo, 2, (Option.some Jvm.ClassFile.FieldType.int))
abbrev mJ4_compareTo_2 : Mth := (yJ4_compareTo_2, cJ4_compareTo_2, 2, (Option.some Jvm.ClassFile.FieldType.int))
abbrev mJ4_numberOfLeadingZeros : Mth := (yJ4_numberOfLeadingZeros, cJ4_numberOfLeadingZeros, 2, (Option.some Jvm.ClassFile.FieldType.int))
abbrev mJ4_numberOfTrailingZeros : Mth := (yJ4_numberOfTrailingZeros, cJ4_numberOfTrailingZeros, 2, (Option.some Jvm.ClassFile.FieldType.int))
abbrev mJ4_bitCount : Mth := (yJ4_bitCount, cJ4_bitCount, 1, (Option.some Jvm.ClassFile.FieldType.int))
abbrev mJ4_stringSize : Mth := (yJ4_stringSize, cJ4_stringSize, 4, (Option.some Jvm.ClassFile.FieldType.int))
abbrev mJ4_getChars : Mth := (yJ4_getChars, cJ4_getChars, 7, (Option.some Jvm.ClassFile.FieldType.int))
abbrev mJ5_newLength : Mth := (yJ5_newLength, cJ5_newLength, 4, (Option.some Jvm.ClassFile.FieldType.int))
abbrev mJ5_hugeLength : Mth := (yJ5_hugeLength, cJ5_hugeLength, 3, (Option.some Jvm.ClassFile.FieldType.int))
abbrev mJ5_mismatch : Mth := (yJ5_mismatch, cJ5_mismatch, 4, (Option.some Jvm.ClassFile.FieldType.int))
abbrev mJ5_vectorizedMismatch : Mth := (yJ5_vectorizedMismatch, cJ5_vectorizedMismatch, 19, (Option.some Jvm.ClassFile.FieldType.int))
abbrev mJ6_max : Mth := (yJ6_max, cJ6_max, 2, (Option.some Jvm.ClassFile.FieldType.int))
abbrev mJ6_min : Mth := (yJ6_min, cJ6_min, 2, (Option.some Jvm.ClassFile.FieldType.int))
abbrev mJ6_abs : Mth := (yJ6_abs, cJ6_abs, 1, (Option.some Jvm.ClassFile.FieldType.int))
abbrev mJ7_copyOf : Mth := (yJ7_copyOf, cJ7_copyOf, 2, (Option.some (Jvm.ClassFile.FieldType.array (Jvm.ClassFile.FieldType.object "java/lang/Object"))))
abbrev mJ7_copyOf_2 : Mth := (yJ7_copyOf_2, cJ7_copyOf_2, 4, (Option.some (Jvm.ClassFile.FieldType.array (Jvm.ClassFile.FieldType.object "java/lang/Object"))))
abbrev mJ7_copyOf_3 : Mth := (yJ7_copyOf_3, cJ7_copyOf_3, 3, (Option.some (Jvm.ClassFile.FieldType.array Jvm.ClassFile.FieldType.byte)))
abbrev mJ7_copyOfRange : Mth := (yJ7_copyOfRange, cJ7_copyOfRange, 3, (Option.some (Jvm.ClassFile.FieldType.array Jvm.ClassFile.FieldType.byte)))
abbrev mJ7_copyOfRangeByte : Mth := (yJ7_copyOfRangeByte, cJ7_copyOfRangeByte, 5, (Option.some (Jvm.ClassFile.FieldType.array Jvm.ClassFile.FieldType.byte)))
abbrev mJ7_checkLength : Mth := (yJ7_checkLength, cJ7_checkLength, 2, (Option.none : Option Jvm.ClassFile.FieldType))
abbrev mJ8_init : Mth := (yJ8_init, cJ8_init, 1, (Option.none : Option Jvm.ClassFile.FieldType))
abbrev mJ9_init : Mth := (yJ9_init, cJ9_init, 2, (Option.none : Option Jvm.ClassFile.FieldType))
abbrev mJ9_init_2 : Mth := (yJ9_init_2, cJ9_init_2, 3, (Option.none : Option Jvm.ClassFile.FieldType))
abbrev mJ9_clear : Mth := (yJ9_clear, cJ9_clear, 4, (Option.none : Option Jvm.ClassFile.FieldType))
abbrev mJ9_offer : Mth := (yJ9_offer, cJ9_offer, 3, (Option.some Jvm.ClassFile.FieldType.boolean))
abbrev mJ9_grow : Mth := (yJ9_grow, cJ9_grow, 4, (Option.none : Option Jvm.ClassFile.FieldType))
abbrev mJ9_siftUp : Mth := (yJ9_siftUp, cJ9_siftUp, 3, (Option.none : Option Jvm.ClassFile.FieldType))
abbrev mJ9_siftUpUsingComparator : Mth := (yJ9_siftUpUsingComparator, cJ9_siftUpUsingComparator, 6, (Option.none : Option Jvm.ClassFile.FieldType))
abbrev mJ9_siftUpComparable : Mth := (yJ9_siftUpComparable, cJ9_siftUpComparable, 6, (Option.none : Option Jvm.ClassFile.FieldType))
abbrev mJ9_poll : Mth := (yJ9_poll, cJ9_poll, 6, (Option.some (Jvm.ClassFile.FieldType.object "java/lang/Object")))
abbrev mJ9_siftDownComparable : Mth := (yJ9_siftDownComparable, cJ9_siftDownComparable, 9, (Option.none : Option Jvm.ClassFile.FieldType))
abbrev mJ9_siftDownUsingComparator : Mth := (yJ9_siftDownUsingComparator, cJ9_siftDownUsingComparator, 9, (Option.none : Option Jvm.ClassFile.FieldType))
abbrev mJ9_size : Mth := (yJ9_size, cJ9_size, 1, (Option.some Jvm.ClassFile.FieldType.int))
abbrev mJ9_peek : Mth := (yJ9_peek, cJ9_peek, 1, (Option.some (Jvm.ClassFile.FieldType.object "java/lang/Object")))
abbrev mX1_init : Mth := (yX1_init, cX1_init, 1, (Option.none : Option Jvm.ClassFile.FieldType))
abbrev mX1_zeros : Mth := (yX1_zeros, cX1_zeros, 6, (Option.some (Jvm.ClassFile.FieldType.object "java/util/ArrayList")))
abbrev mX1_save : Mth := (yX1_save, cX1_save, 1, (Option.some Jvm.ClassFile.FieldType.int))
abbrev mX1_copyOf : Mth := (yX1_copyOf, cX1_copyOf, 7, (Option.some (Jvm.ClassFile.FieldType.object "java/util/ArrayList")))
abbrev mX1_totalCost : Mth := (yX1_totalCost, cX1_totalCost, 3, (Option.some Jvm.ClassFile.FieldType.int))
abbrev mX1_rowSum : Mth := (yX1_rowSum, cX1_rowSum, 5, (Option.some Jvm.ClassFile.FieldType.int))
abbrev mX1_costOf : Mth := (yX1_costOf, cX1_costOf, 1, (Option.some Jvm.ClassFile.FieldType.int))
abbrev mX1_restore : Mth := (yX1_restore, cX1_restore, 1, (Option.some Jvm.ClassFile.FieldType.int))
abbrev mX1_cancel : Mth := (yX1_cancel, cX1_cancel, 1, (Option.none : Option Jvm.ClassFile.FieldType))
abbrev mX1_distance : Mth := (yX1_distance, cX1_distance, 4, (Option.some Jvm.ClassFile.FieldType.int))
abbrev mX1_costHere : Mth := (yX1_costHere, cX1_costHere, 3, (Option.some Jvm.ClassFile.FieldType.int))
abbrev mX1_costIn : Mth := (yX1_costIn, cX1_costIn, 5, (Option.some Jvm.ClassFile.FieldType.int))
abbrev mX1_rows : Mth := (yX1_rows, cX1_rows, 1, (Option.some Jvm.ClassFile.FieldType.int))
abbrev mX1_columns : Mth := (yX1_columns, cX1_columns, 1, (Option.some Jvm.ClassFile.FieldType.int))
abbrev mX1_forbiddenCount : Mth := (yX1_forbiddenCount, cX1_forbiddenCount, 6, (Option.some Jvm.ClassFile.FieldType.int))
abbrev mX1_minimum : Mth := (yX1_minimum, cX1_minimum, 1, (Option.some Jvm.ClassFile.FieldType.int))
abbrev mX1_load : Mth := (yX1_load, cX1_load, 1, (Option.none : Option Jvm.ClassFile.FieldType))
abbrev mX1_load_2 : Mth := (yX1_load_2, cX1_load_2, 6, (Option.none : Option Jvm.ClassFile.FieldType))
abbrev mX1_solve : Mth := (yX1_solve, cX1_solve, 3, (Option.some Jvm.ClassFile.FieldType.int))
abbrev mX1_augment : Mth := (yX1_augment, cX1_augment, 8, (Option.none : Option Jvm.ClassFile.FieldType))
abbrev mX1_beginPaths : Mth := (yX1_beginPaths, cX1_beginPaths, 2, (Option.none : Option Jvm.ClassFile.FieldType))
abbrev mX1_relaxColumns : Mth := (yX1_relaxColumns, cX1_relaxColumns, 5, (Option.none : Option Jvm.ClassFile.FieldType))
abbrev mX1_reducedHere : Mth := (yX1_reducedHere, cX1_reducedHere, 3, (Option.some Jvm.ClassFile.FieldType.int))
abbrev mX1_offer : Mth := (yX1_offer, cX1_offer, 3, (Option.none : Option Jvm.ClassFile.FieldType))
abbrev mX1_settleNext : Mth := (yX1_settleNext, cX1_settleNext, 2, (Option.some Jvm.ClassFile.FieldType.int))
abbrev mX1_savedMinimum : Mth := (yX1_savedMinimum, cX1_savedMinimum, 1, (Option.some Jvm.ClassFile.FieldType.int))
abbrev mX1_optimalCount : Mth := (yX1_optimalCount, cX1_optimalCount, 1, (Option.some Jvm.ClassFile.FieldType.int))
abbrev mX1_countOptimal : Mth := (yX1_countOptimal, cX1_countOptimal, 7, (Option.none : Option Jvm.ClassFile.FieldType))
abbrev mX1_secondBest : Mth := (yX1_secondBest, cX1_secondBest, 4, (Option.some Jvm.ClassFile.FieldType.int))
abbrev mX1_findFirst : Mth := (yX1_findFirst, cX1_findFirst, 5, (Option.some Jvm.ClassFile.FieldType.int))
abbrev mX1_minimumWithout : Mth := (yX1_minimumWithout, cX1_minimumWithout, 3, (Option.some Jvm.ClassFile.FieldType.int))
abbrev mX1_isRow : Mth := (yX1_isRow, cX1_isRow, 2, (Option.some Jvm.ClassFile.FieldType.boolean))
abbrev mX1_isIn : Mth := (yX1_isIn, cX1_isIn, 6, (Option.some Jvm.ClassFile.FieldType.boolean))
abbrev mX1_needPlace : Mth := (yX1_needPlace, cX1_needPlace, 1, (Option.none : Option Jvm.ClassFile.FieldType))
abbrev mX1_maximum : Mth := (yX1_maximum, cX1_maximum, 4, (Option.some Jvm.ClassFile.FieldType.int))
abbrev mX1_bottleneck : Mth := (yX1_bottleneck, cX1_bottleneck, 4, (Option.some Jvm.ClassFile.FieldType.int))
abbrev mX1_isEnough : Mth := (yX1_isEnough, cX1_isEnough, 5, (Option.some Jvm.ClassFile.FieldType.boolean))
abbrev mX1_seeks : Mth := (yX1_seeks, cX1_seeks, 4, (Option.some Jvm.ClassFile.FieldType.boolean))
abbrev mX1_stepsMade : Mth := (yX1_stepsMade, cX1_stepsMade, 1, (Option.some Jvm.ClassFile.FieldType.int))
abbrev mX1_meanCost : Mth := (yX1_meanCost, cX1_meanCost, 1, (Option.some Jvm.ClassFile.FieldType.double))
abbrev mX1_checksum : Mth := (yX1_checksum, cX1_checksum, 8, (Option.some Jvm.ClassFile.FieldType.long))
abbrev mX1_isSound : Mth := (yX1_isSound, cX1_isSound, 8, (Option.some Jvm.ClassFile.FieldType.boolean))
abbrev mX1_findPotentials : Mth := (yX1_findPotentials, cX1_findPotentials, 5, (Option.some Jvm.ClassFile.FieldType.int))
abbrev mX1_minimumWith : Mth := (yX1_minimumWith, cX1_minimumWith, 4, (Option.some Jvm.ClassFile.FieldType.int))
abbrev mX1_resize : Mth := (yX1_resize, cX1_resize, 3, (Option.some Jvm.ClassFile.FieldType.int))
abbrev mX1_needNumber : Mth := (yX1_needNumber, cX1_needNumber, 1, (Option.none : Option Jvm.ClassFile.FieldType))
abbrev mX1_setCost : Mth := (yX1_setCost, cX1_setCost, 6, (Option.some Jvm.ClassFile.FieldType.int))
abbrev mX1_isReal : Mth := (yX1_isReal, cX1_isReal, 2, (Option.some Jvm.ClassFile.FieldType.boolean))
abbrev mX1_numberOf : Mth := (yX1_numberOf, cX1_numberOf, 1, (Option.some Jvm.ClassFile.FieldType.int))
abbrev mX1_setRow : Mth := (yX1_setRow, cX1_setRow, 12, (Option.some Jvm.ClassFile.FieldType.int))
abbrev mX1_fill : Mth := (yX1_fill, cX1_fill, 8, (Option.some Jvm.ClassFile.FieldType.int))
abbrev mX1_setForbidden : Mth := (yX1_setForbidden, cX1_setForbidden, 5, (Option.some Jvm.ClassFile.FieldType.int))
abbrev mX1_held : Mth := (yX1_held, cX1_held, 3, (Option.some Jvm.ClassFile.FieldType.int))
abbrev mX1_costAt : Mth := (yX1_costAt, cX1_costAt, 3, (Option.some Jvm.ClassFile.FieldType.int))
abbrev mX1_addToRow : Mth := (yX1_addToRow, cX1_addToRow, 6, (Option.some Jvm.ClassFile.FieldType.int))
abbrev mX1_needState : Mth := (yX1_needState, cX1_needState, 1, (Option.none : Option Jvm.ClassFile.FieldType))
abbrev mX1_addToColumn : Mth := (yX1_addToColumn, cX1_addToColumn, 6, (Option.some Jvm.ClassFile.FieldType.int))
abbrev mX1_columnSum : Mth := (yX1_columnSum, cX1_columnSum, 5, (Option.some Jvm.ClassFile.FieldType.int))
abbrev mX1_swapRows : Mth := (yX1_swapRows, cX1_swapRows, 6, (Option.some Jvm.ClassFile.FieldType.int))
abbrev mX1_swapColumns : Mth := (yX1_swapColumns, cX1_swapColumns, 5, (Option.some Jvm.ClassFile.FieldType.int))
abbrev mX1_transpose : Mth := (yX1_transpose, cX1_transpose, 6, (Option.some Jvm.ClassFile.FieldType.int))
abbrev mX1_assigned : Mth := (yX1_assigned, cX1_assigned, 2, (Option.some Jvm.ClassFile.FieldType.int))
abbrev mX1_rowPotential : Mth := (yX1_rowPotential, cX1_rowPotential, 2, (Option.some Jvm.ClassFile.FieldType.int))
abbrev mX1_columnPotential : Mth := (yX1_columnPotential, cX1_columnPotential, 2, (Option.some Jvm.ClassFile.FieldType.int))
abbrev mX1_reducedCost : Mth := (yX1_reducedCost, cX1_reducedCost, 3, (Option.some Jvm.ClassFile.FieldType.int))
abbrev mX1_minimumIfCost : Mth := (yX1_minimumIfCost, cX1_minimumIfCost, 4, (Option.some Jvm.ClassFile.FieldType.int))
abbrev mX1_fits : Mth := (yX1_fits, cX1_fits, 2, (Option.some Jvm.ClassFile.FieldType.boolean))
abbrev mX1_countWithin : Mth := (yX1_countWithin, cX1_countWithin, 2, (Option.some Jvm.ClassFile.FieldType.int))
abbrev mX1_countFrom : Mth := (yX1_countFrom, cX1_countFrom, 6, (Option.some Jvm.ClassFile.FieldType.int))
abbrev mX1_sumOf : Mth := (yX1_sumOf, cX1_sumOf, 7, (Option.some Jvm.ClassFile.FieldType.int))
abbrev mX1_startEnumeration : Mth := (yX1_startEnumeration, cX1_startEnumeration, 4, (Option.some Jvm.ClassFile.FieldType.int))
abbrev mX1_nextSum : Mth := (yX1_nextSum, cX1_nextSum, 2, (Option.some Jvm.ClassFile.FieldType.int))
abbrev mX1_goOn : Mth := (yX1_goOn, cX1_goOn, 3, (Option.none : Option Jvm.ClassFile.FieldType))
abbrev mX1_currentColumn : Mth := (yX1_currentColumn, cX1_currentColumn, 4, (Option.some Jvm.ClassFile.FieldType.int))
abbrev mX1_shareOf : Mth := (yX1_shareOf, cX1_shareOf, 3, (Option.some Jvm.ClassFile.FieldType.float))
abbrev mX2_init : Mth := (yX2_init, cX2_init, 1, (Option.none : Option Jvm.ClassFile.FieldType))
abbrev mX2_compare : Mth := (yX2_compare, cX2_compare, 3, (Option.some Jvm.ClassFile.FieldType.int))
abbrev mX2_compare_2 : Mth := (yX2_compare_2, cX2_compare_2, 3, (Option.some Jvm.ClassFile.FieldType.int))
abbrev mX3_init : Mth := (yX3_init, cX3_init, 1, (Option.none : Option Jvm.ClassFile.FieldType))
abbrev mX3_compare : Mth := (yX3_compare, cX3_compare, 3, (Option.some Jvm.ClassFile.FieldType.int))
abbrev mX3_compare_2 : Mth := (yX3_compare_2, cX3_compare_2, 3, (Option.some Jvm.ClassFile.FieldType.int))
abbrev mX4_init : Mth := (yX4_init, cX4_init, 1, (Option.none : Option Jvm.ClassFile.FieldType))
abbrev mX4_thrown : Mth := (yX4_thrown, cX4_thrown, 1, (Option.some Jvm.ClassFile.FieldType.int))
abbrev mX4_resize : Mth := (yX4_resize, cX4_resize, 4, (Option.some Jvm.ClassFile.FieldType.int))
abbrev mX4_isIn : Mth := (yX4_isIn, cX4_isIn, 6, (Option.some Jvm.ClassFile.FieldType.boolean))
abbrev mX4_isWrong : Mth := (yX4_isWrong, cX4_isWrong, 2, (Option.some Jvm.ClassFile.FieldType.boolean))
abbrev mX4_setCost : Mth := (yX4_setCost, cX4_setCost, 5, (Option.some Jvm.ClassFile.FieldType.int))
abbrev mX4_isRow : Mth := (yX4_isRow, cX4_isRow, 2, (Option.some Jvm.ClassFile.FieldType.boolean))
abbrev mX4_isReal : Mth := (yX4_isReal, cX4_isReal, 2, (Option.some Jvm.ClassFile.FieldType.boolean))
abbrev mX4_setRow : Mth := (yX4_setRow, cX4_setRow, 11, (Option.some Jvm.ClassFile.FieldType.int))
abbrev mX4_fill : Mth := (yX4_fill, cX4_fill, 7, (Option.some Jvm.ClassFile.FieldType.int))
abbrev mX4_setForbidden : Mth := (yX4_setForbidden, cX4_setForbidden, 4, (Option.some Jvm.ClassFile.FieldType.int))
abbrev mX4_forbiddenMany : Mth := (yX4_forbiddenMany, cX4_forbiddenMany, 4, (Option.some Jvm.ClassFile.FieldType.int))
abbrev mX4_costAt : Mth := (yX4_costAt, cX4_costAt, 3, (Option.some Jvm.ClassFile.FieldType.int))
abbrev mX4_cost : Mth := (yX4_cost, cX4_cost, 3, (Option.some Jvm.ClassFile.FieldType.int))
abbrev mX4_addToRow : Mth := (yX4_addToRow, cX4_addToRow, 5, (Option.some Jvm.ClassFile.FieldType.int))
abbrev mX4_takes : Mth := (yX4_takes, cX4_takes, 4, (Option.some Jvm.ClassFile.FieldType.boolean))
abbrev mX4_rowSum : Mth := (yX4_rowSum, cX4_rowSum, 4, (Option.some Jvm.ClassFile.FieldType.int))
abbrev mX4_addToColumn : Mth := (yX4_addToColumn, cX4_addToColumn, 5, (Option.some Jvm.ClassFile.FieldType.int))
abbrev mX4_columnSum : Mth := (yX4_columnSum, cX4_columnSum, 4, (Option.some Jvm.ClassFile.FieldType.int))
abbrev mX4_swapRows : Mth := (yX4_swapRows, cX4_swapRows, 4, (Option.some Jvm.ClassFile.FieldType.int))
abbrev mX4_exchangeCells : Mth := (yX4_exchangeCells, cX4_exchangeCells, 5, (Option.none : Option Jvm.ClassFile.FieldType))
abbrev mX4_swapColumns : Mth := (yX4_swapColumns, cX4_swapColumns, 4, (Option.some Jvm.ClassFile.FieldType.int))
abbrev mX4_transpose : Mth := (yX4_transpose, cX4_transpose, 3, (Option.some Jvm.ClassFile.FieldType.int))
abbrev mX4_save : Mth := (yX4_save, cX4_save, 2, (Option.some Jvm.ClassFile.FieldType.int))
abbrev mX4_total : Mth := (yX4_total, cX4_total, 3, (Option.some Jvm.ClassFile.FieldType.int))
abbrev mX4_restore : Mth := (yX4_restore, cX4_restore, 2, (Option.some Jvm.ClassFile.FieldType.int))
abbrev mX4_distance : Mth := (yX4_distance, cX4_distance, 5, (Option.some Jvm.ClassFile.FieldType.int))
abbrev mX4_savedCost : Mth := (yX4_savedCost, cX4_savedCost, 3, (Option.some Jvm.ClassFile.FieldType.int))
abbrev mX4_rows : Mth := (yX4_rows, cX4_rows, 1, (Option.some Jvm.ClassFile.FieldType.int))
abbrev mX4_columns : Mth := (yX4_columns, cX4_columns, 1, (Option.some Jvm.ClassFile.FieldType.int))
abbrev mX4_forbiddenCount : Mth := (yX4_forbiddenCount, cX4_forbiddenCount, 1, (Option.some Jvm.ClassFile.FieldType.int))
abbrev mX4_totalCost : Mth := (yX4_totalCost, cX4_totalCost, 1, (Option.some Jvm.ClassFile.FieldType.int))
abbrev mX4_minimum : Mth := (yX4_minimum, cX4_minimum, 1, (Option.some Jvm.ClassFile.FieldType.int))
abbrev mX4_look : Mth := (yX4_look, cX4_look, 1, (Option.none : Option Jvm.ClassFile.FieldType))
abbrev mX4_take : Mth := (yX4_take, cX4_take, 3, (Option.none : Option Jvm.ClassFile.FieldType))
abbrev mX4_look_2 : Mth := (yX4_look_2, cX4_look_2, 3, (Option.none : Option Jvm.ClassFile.FieldType))
abbrev mX4_begin : Mth := (yX4_begin, cX4_begin, 2, (Option.none : Option Jvm.ClassFile.FieldType))
abbrev mX4_factorial : Mth := (yX4_factorial, cX4_factorial, 1, (Option.some Jvm.ClassFile.FieldType.int))
abbrev mX4_sum : Mth := (yX4_sum, cX4_sum, 4, (Option.some Jvm.ClassFile.FieldType.int))
abbrev mX4_see : Mth := (yX4_see, cX4_see, 6, (Option.none : Option Jvm.ClassFile.FieldType))
abbrev mX4_goOn : Mth := (yX4_goOn, cX4_goOn, 6, (Option.none : Option Jvm.ClassFile.FieldType))
abbrev mX4_exchange : Mth := (yX4_exchange, cX4_exchange, 4, (Option.none : Option Jvm.ClassFile.FieldType))
abbrev mX4_savedMinimum : Mth := (yX4_savedMinimum, cX4_savedMinimum, 3, (Option.some Jvm.ClassFile.FieldType.int))
abbrev mX4_assigned : Mth := (yX4_assigned, cX4_assigned, 2, (Option.some Jvm.ClassFile.FieldType.int))
abbrev mX4_optimalCount : Mth := (yX4_optimalCount, cX4_optimalCount, 1, (Option.some Jvm.ClassFile.FieldType.int))
abbrev mX4_rowPotential : Mth := (yX4_rowPotential, cX4_rowPotential, 2, (Option.some Jvm.ClassFile.FieldType.int))
abbrev mX4_findPotentials : Mth := (yX4_findPotentials, cX4_findPotentials, 4, (Option.none : Option Jvm.ClassFile.FieldType))
abbrev mX4_columnPotential : Mth := (yX4_columnPotential, cX4_columnPotential, 2, (Option.some Jvm.ClassFile.FieldType.int))
abbrev mX4_reducedCost : Mth := (yX4_reducedCost, cX4_reducedCost, 3, (Option.some Jvm.ClassFile.FieldType.int))
abbrev mX4_reduced : Mth := (yX4_reduced, cX4_reduced, 3, (Option.some Jvm.ClassFile.FieldType.int))
abbrev mX4_minimumWith : Mth := (yX4_minimumWith, cX4_minimumWith, 3, (Option.some Jvm.ClassFile.FieldType.int))
abbrev mX4_minimumWithout : Mth := (yX4_minimumWithout, cX4_minimumWithout, 3, (Option.some Jvm.ClassFile.FieldType.int))
abbrev mX4_without : Mth := (yX4_without, cX4_without, 5, (Option.some Jvm.ClassFile.FieldType.int))
abbrev mX4_minimumIfCost : Mth := (yX4_minimumIfCost, cX4_minimumIfCost, 4, (Option.some Jvm.ClassFile.FieldType.int))
abbrev mX4_secondBest : Mth := (yX4_secondBest, cX4_secondBest, 1, (Option.some Jvm.ClassFile.FieldType.int))
abbrev mX4_maximum : Mth := (yX4_maximum, cX4_maximum, 1, (Option.some Jvm.ClassFile.FieldType.int))
abbrev mX4_bottleneck : Mth := (yX4_bottleneck, cX4_bottleneck, 1, (Option.some Jvm.ClassFile.FieldType.int))
abbrev mX4_fits : Mth := (yX4_fits, cX4_fits, 2, (Option.some Jvm.ClassFile.FieldType.boolean))
abbrev mX4_countWithin : Mth := (yX4_countWithin, cX4_countWithin, 4, (Option.some Jvm.ClassFile.FieldType.int))
abbrev mX4_sumOf : Mth := (yX4_sumOf, cX4_sumOf, 7, (Option.some Jvm.ClassFile.FieldType.int))
abbrev mX4_startEnumeration : Mth := (yX4_startEnumeration, cX4_startEnumeration, 1, (Option.some Jvm.ClassFile.FieldType.int))
abbrev mX4_nextSum : Mth := (yX4_nextSum, cX4_nextSum, 7, (Option.some Jvm.ClassFile.FieldType.int))
abbrev mX4_currentColumn : Mth := (yX4_currentColumn, cX4_currentColumn, 2, (Option.some Jvm.ClassFile.FieldType.int))
abbrev mX4_stepsMade : Mth := (yX4_stepsMade, cX4_stepsMade, 1, (Option.some Jvm.ClassFile.FieldType.int))
abbrev mX4_meanCost : Mth := (yX4_meanCost, cX4_meanCost, 1, (Option.some Jvm.ClassFile.FieldType.double))
abbrev mX4_shareOf : Mth := (yX4_shareOf, cX4_shareOf, 2, (Option.some Jvm.ClassFile.FieldType.float))
abbrev mX4_checksum : Mth := (yX4_checksum, cX4_checksum, 5, (Option.some Jvm.ClassFile.FieldType.long))
abbrev mX4_isSound : Mth := (yX4_isSound, cX4_isSound, 5, (Option.some Jvm.ClassFile.FieldType.boolean))
abbrev mX5_init : Mth := (yX5_init, cX5_init, 4, (Option.none : Option Jvm.ClassFile.FieldType))
abbrev mX6_init : Mth := (yX6_init, cX6_init, 5, (Option.none : Option Jvm.ClassFile.FieldType))
theorem ml_X1_162 : LinkS RX1 162 mX1_needNumber 1 := ⟨lw_S q1000 q1001 q56 q1002, ⟨by decide +kernel, by decide +kernel, by decide +kernel⟩, by decide⟩
theorem ml_X1_16 : LinkS RX1 16 mX1_zeros 2 := ⟨lw_S q101 q102 q56 q103, ⟨by decide +kernel, by decide +kernel, by decide +kernel⟩, by decide⟩
theorem ml_X0_15 : LinkV RX0 15 RX1 mX1_setCost 3 := ⟨lw_V q1041 q1042 q1043 q56 q1044, ⟨rfl, by decide +kernel, by decide +kernel, by decide +kernel⟩, by decide⟩
theorem ml_X1_173 : LinkV RX1 173 RX1 mX1_isReal 1 := ⟨lw_V q1045 q1047 qs25 q56 q1048, ⟨rfl, by decide +kernel, by decide +kernel, by decide +kernel⟩, by decide⟩
theorem ml_X1_181 : LinkV RX1 181 RJ2 mJ2_set 2 := ⟨lw_V q1050 q1051 q1052 q59 q1053, ⟨rfl, by decide +kernel, by decide +kernel, by decide +kernel⟩, by decide⟩
theorem ml_X1_185 : LinkS RX1 185 mX1_numberOf 1 := ⟨lw_S q1054 q1055 q56 q1056, ⟨by decide +kernel, by decide +kernel, by decide +kernel⟩, by decide⟩
theorem ml_X1_93 : LinkI RX1 93 mJ2_init 0 := ⟨⟨lw_meth q108, rfl, q59, q106, q107, rfl⟩, ⟨by decide +kernel, by decide +kernel, by decide +kernel⟩, by decide⟩
theorem ml_X0_21 : LinkV RX0 21 RX1 mX1_setRow 2 := ⟨lw_V q1060 q1061 q1062 q56 q1063, ⟨rfl, by decide +kernel, by decide +kernel, by decide +kernel⟩, by decide⟩
theorem ml_X0_25 : LinkV RX0 25 RX1 mX1_fill 2 := ⟨lw_V q1068 q1069 q1070 q56 q1071, ⟨rfl, by decide +kernel, by decide +kernel, by decide +kernel⟩, by decide⟩
theorem ml_X0_28 : LinkV RX0 28 RX1 mX1_setForbidden 3 := ⟨lw_V q1076 q1077 q1078 q56 q1079, ⟨rfl, by decide +kernel, by decide +kernel, by decide +kernel⟩, by decide⟩
theorem ml_X1_198 : LinkV RX1 198 RX1 mX1_held 2 := ⟨lw_V q1080 q1082 qs26 q56 q1083, ⟨rfl, by decide +kernel, by decide +kernel, by decide +kernel⟩, by decide⟩
theorem ml_X0_32 : LinkV RX0 32 RX1 mX1_costAt 2 := ⟨lw_V q1087 q1088 q1089 q56 q1090, ⟨rfl, by decide +kernel, by decide +kernel, by decide +kernel⟩, by decide⟩
theorem ml_J2_1 : LinkI RJ2 1 mJ1_init 0 := ⟨⟨lw_meth q111, rfl, q58, q109, q110, rfl⟩, ⟨by decide +kernel, by decide +kernel, by decide +kernel⟩, by decide⟩
theorem ml_X0_35 : LinkV RX0 35 RX1 mX1_addToRow 2 := ⟨lw_V q1095 q1096 q1097 q56 q1098, ⟨rfl, by decide +kernel, by decide +kernel, by decide +kernel⟩, by decide⟩
theorem ml_X1_209 : LinkS RX1 209 mX1_needState 1 := ⟨lw_S q1100 q1101 q56 q1102, ⟨by decide +kernel, by decide +kernel, by decide +kernel⟩, by decide⟩
theorem ml_J1_1 : LinkI RJ1 1 mJ0_init 0 := ⟨⟨lw_meth q114, rfl, q57, q112, q113, rfl⟩, ⟨by decide +kernel, by decide +kernel, by decide +kernel⟩, by decide⟩
theorem ml_X0_40 : LinkV RX0 40 RX1 mX1_addToColumn 2 := ⟨lw_V q1121 q1122 q1123 q56 q1124, ⟨rfl, by decide +kernel, by decide +kernel, by decide +kernel⟩, by decide⟩
theorem ml_X1_215 : LinkV RX1 215 RX1 mX1_columnSum 1 := ⟨lw_V q1125 q1127 qs27 q56 q1128, ⟨rfl, by decide +kernel, by decide +kernel, by decide +kernel⟩, by decide⟩
theorem ml_X0_43 : LinkV RX0 43 RX1 mX1_swapRows 2 := ⟨lw_V q1132 q1133 q1134 q56 q1135, ⟨rfl, by decide +kernel, by decide +kernel, by decide +kernel⟩, by decide⟩
theorem ml_X1_218 : LinkS RX1 218 mJ6_max 2 := ⟨lw_S q1136 q173 q64 q174, ⟨by decide +kernel, by decide +kernel, by decide +kernel⟩, by decide⟩
theorem ml_X1_221 : LinkV RX1 221 RJ2 mJ2_remove 1 := ⟨lw_V q1137 q1138 q1139 q59 q1140, ⟨rfl, by decide +kernel, by decide +kernel, by decide +kernel⟩, by decide⟩
theorem ml_J2_144 : LinkV RJ2 144 RJ2 mJ2_fastRemove 2 := ⟨lw_V q1141 q1143 qs28 q59 q1144, ⟨rfl, by decide +kernel, by decide +kernel, by decide +kernel⟩, by decide⟩
theorem ml_X1_224 : LinkV RX1 224 RJ2 mJ2_add_3 2 := ⟨lw_V q1146 q1147 q1148 q59 q1149, ⟨rfl, by decide +kernel, by decide +kernel, by decide +kernel⟩, by decide⟩
theorem ml_J2_135 : LinkV RJ2 135 RJ2 mJ2_rangeCheckForAdd 1 := ⟨lw_V q1150 q1152 qs29 q59 q1153, ⟨rfl, by decide +kernel, by decide +kernel, by decide +kernel⟩, by decide⟩
theorem ml_J2_198 : LinkV RJ2 198 RJ2 mJ2_outOfBoundsMsg 1 := ⟨lw_V q1155 q1157 qs30 q59 q1158, ⟨rfl, by decide +kernel, by decide +kernel, by decide +kernel⟩, by decide⟩
theorem ml_J7_339 : LinkS RJ7 339 mJ7_copyOfRangeByte 3 := ⟨lw_S q1324 q1325 q65 q1326, ⟨by decide +kernel, by decide +kernel, by decide +kernel⟩, by decide⟩
theorem ml_J7_343 : LinkS RJ7 343 mJ7_checkLength 2 := ⟨lw_S q1327 q1328 q65 q1329, ⟨by decide +kernel, by decide +kernel, by decide +kernel⟩, by decide⟩
theorem ml_X1_94 : LinkS RX1 94 mJ4_valueOf 1 := ⟨lw_S q133 q134 q61 q135, ⟨by decide +kernel, by decide +kernel, by decide +kernel⟩, by decide⟩
theorem ml_X0_46 : LinkV RX0 46 RX1 mX1_swapColumns 2 := ⟨lw_V q1362 q1363 q1364 q56 q1365, ⟨rfl, by decide +kernel, by decide +kernel, by decide +kernel⟩, by decide⟩
theorem ml_X0_49 : LinkV RX0 49 RX1 mX1_transpose 0 := ⟨lw_V q1369 q1370 q1371 q56 q1372, ⟨rfl, by decide +kernel, by decide +kernel, by decide +kernel⟩, by decide⟩
theorem ml_X0_53 : LinkV RX0 53 RX1 mX1_assigned 1 := ⟨lw_V q1376 q1377 q1378 q56 q1379, ⟨rfl, by decide +kernel, by decide +kernel, by decide +kernel⟩, by decide⟩
theorem ml_X0_57 : LinkV RX0 57 RX1 mX1_rowPotential 1 := ⟨lw_V q1383 q1384 q1385 q56 q1386, ⟨rfl, by decide +kernel, by decide +kernel, by decide +kernel⟩, by decide⟩
theorem ml_X0_60 : LinkV RX0 60 RX1 mX1_columnPotential 1 := ⟨lw_V q1390 q1391 q1392 q56 q1393, ⟨rfl, by decide +kernel, by decide +kernel, by decide +kernel⟩, by decide⟩
theorem ml_X0_63 : LinkV RX0 63 RX1 mX1_reducedCost 2 := ⟨lw_V q1397 q1398 q1399 q56 q1400, ⟨rfl, by decide +kernel, by decide +kernel, by decide +kernel⟩, by decide⟩
theorem ml_X0_66 : LinkV RX0 66 RX1 mX1_minimumWith 2 := ⟨lw_V q1404 q987 q988 q56 q989, ⟨rfl, by decide +kernel, by decide +kernel, by decide +kernel⟩, by decide⟩
theorem ml_X0_69 : LinkV RX0 69 RX1 mX1_minimumWithout 2 := ⟨lw_V q1408 q918 q919 q56 q920, ⟨rfl, by decide +kernel, by decide +kernel, by decide +kernel⟩, by decide⟩
theorem ml_X0_72 : LinkV RX0 72 RX1 mX1_minimumIfCost 3 := ⟨lw_V q1412 q1413 q1414 q56 q1415, ⟨rfl, by decide +kernel, by decide +kernel, by decide +kernel⟩, by decide⟩
theorem ml_X0_75 : LinkV RX0 75 RX1 mX1_fits 1 := ⟨lw_V q1419 q1420 q1421 q56 q1422, ⟨rfl, by decide +kernel, by decide +kernel, by decide +kernel⟩, by decide⟩
theorem ml_J4_199 : LinkI RJ4 199 mJ4_init 1 := ⟨⟨lw_meth q144, rfl, q61, q142, q143, rfl⟩, ⟨by decide +kernel, by decide +kernel, by decide +kernel⟩, by decide⟩
theorem ml_X0_79 : LinkV RX0 79 RX1 mX1_countWithin 1 := ⟨lw_V q1427 q1428 q1429 q56 q1430, ⟨rfl, by decide +kernel, by decide +kernel, by decide +kernel⟩, by decide⟩
theorem ml_X1_310 : LinkV RX1 310 RX1 mX1_countFrom 3 := ⟨lw_V q1432 q1434 qs31 q56 q1435, ⟨rfl, by decide +kernel, by decide +kernel, by decide +kernel⟩, by decide⟩
theorem ml_X0_82 : LinkV RX0 82 RX1 mX1_sumOf 1 := ⟨lw_V q1439 q1440 q1441 q56 q1442, ⟨rfl, by decide +kernel, by decide +kernel, by decide +kernel⟩, by decide⟩
theorem ml_X0_85 : LinkV RX0 85 RX1 mX1_startEnumeration 0 := ⟨lw_V q1446 q1447 q1448 q56 q1449, ⟨rfl, by decide +kernel, by decide +kernel, by decide +kernel⟩, by decide⟩
theorem ml_X1_321 : LinkI RX1 321 mX6_init 4 := ⟨⟨lw_meth q1454, rfl, q92, q1452, q1453, rfl⟩, ⟨by decide +kernel, by decide +kernel, by decide +kernel⟩, by decide⟩
theorem ml_X0_88 : LinkV RX0 88 RX1 mX1_nextSum 0 := ⟨lw_V q1480 q1481 q1482 q56 q1483, ⟨rfl, by decide +kernel, by decide +kernel, by decide +kernel⟩, by decide⟩
theorem ml_X1_336 : LinkV RX1 336 RJ9 mJ9_size 0 := ⟨lw_V q1484 q1485 q1486 q68 q1487, ⟨rfl, by decide +kernel, by decide +kernel, by decide +kernel⟩, by decide⟩
theorem ml_X1_341 : LinkV RX1 341 RJ9 mJ9_peek 0 := ⟨lw_V q1490 q1491 q1492 q68 q1493, ⟨rfl, by decide +kernel, by decide +kernel, by decide +kernel⟩, by decide⟩
theorem ml_X1_344 : LinkV RX1 344 RX1 mX1_goOn 1 := ⟨lw_V q1494 q1496 qs32 q56 q1497, ⟨rfl, by decide +kernel, by decide +kernel, by decide +kernel⟩, by decide⟩
theorem ml_X0_93 : LinkV RX0 93 RX1 mX1_currentColumn 1 := ⟨lw_V q1501 q1502 q1503 q56 q1504, ⟨rfl, by decide +kernel, by decide +kernel, by decide +kernel⟩, by decide⟩
theorem ml_X0_96 : LinkV RX0 96 RX1 mX1_shareOf 1 := ⟨lw_V q1508 q1509 q1510 q56 q1511, ⟨rfl, by decide +kernel, by decide +kernel, by decide +kernel⟩, by decide⟩
theorem ml_X0_103 : LinkI RX0 103 mX4_init 0 := ⟨⟨lw_meth q1516, rfl, q75, q1514, q1515, rfl⟩, ⟨by decide +kernel, by decide +kernel, by decide +kernel⟩, by decide⟩
theorem ml_X1_100 : LinkV RX1 100 RJ2 mJ2_add 1 := ⟨lw_V q153 q154 q155 q59 q156, ⟨rfl, by decide +kernel, by decide +kernel, by decide +kernel⟩, by decide⟩
theorem ml_J2_131 : LinkV RJ2 131 RJ2 mJ2_add_2 3 := ⟨lw_V q157 q159 qs0 q59 q160, ⟨rfl, by decide +kernel, by decide +kernel, by decide +kernel⟩, by decide⟩
theorem ml_X0_110 : LinkV RX0 110 RX4 mX4_thrown 0 := ⟨lw_V q1591 q1592 q1593 q75 q1594, ⟨rfl, by decide +kernel, by decide +kernel, by decide +kernel⟩, by decide⟩
theorem ml_X0_109 : LinkV RX0 109 RX4 mX4_resize 2 := ⟨lw_V q1595 q1596 q1597 q75 q1598, ⟨rfl, by decide +kernel, by decide +kernel, by decide +kernel⟩, by decide⟩
theorem ml_X4_63 : LinkS RX4 63 mX4_isIn 3 := ⟨lw_S q1600 q1601 q75 q1602, ⟨by decide +kernel, by decide +kernel, by decide +kernel⟩, by decide⟩
theorem ml_X4_118 : LinkV RX4 118 RX4 mX4_isWrong 1 := ⟨lw_V q1603 q1605 qs33 q75 q1606, ⟨rfl, by decide +kernel, by decide +kernel, by decide +kernel⟩, by decide⟩
theorem ml_X0_116 : LinkV RX0 116 RX4 mX4_setCost 3 := ⟨lw_V q1607 q1608 q1609 q75 q1610, ⟨rfl, by decide +kernel, by decide +kernel, by decide +kernel⟩, by decide⟩
theorem ml_J2_129 : LinkV RJ2 129 RJ2 mJ2_grow 0 := ⟨lw_V q161 q163 qs1 q59 q164, ⟨rfl, by decide +kernel, by decide +kernel, by decide +kernel⟩, by decide⟩
theorem ml_X4_122 : LinkV RX4 122 RX4 mX4_isRow 1 := ⟨lw_V q1611 q1613 qs34 q75 q1614, ⟨rfl, by decide +kernel, by decide +kernel, by decide +kernel⟩, by decide⟩
theorem ml_X4_125 : LinkV RX4 125 RX4 mX4_isReal 1 := ⟨lw_V q1615 q1617 qs35 q75 q1618, ⟨rfl, by decide +kernel, by decide +kernel, by decide +kernel⟩, by decide⟩
theorem ml_X0_122 : LinkV RX0 122 RX4 mX4_setRow 2 := ⟨lw_V q1620 q1621 q1622 q75 q1623, ⟨rfl, by decide +kernel, by decide +kernel, by decide +kernel⟩, by decide⟩
theorem ml_X0_125 : LinkV RX0 125 RX4 mX4_fill 2 := ⟨lw_V q1625 q1626 q1627 q75 q1628, ⟨rfl, by decide +kernel, by decide +kernel, by decide +kernel⟩, by decide⟩
theorem ml_X0_129 : LinkV RX0 129 RX4 mX4_setForbidden 3 := ⟨lw_V q1630 q1631 q1632 q75 q1633, ⟨rfl, by decide +kernel, by decide +kernel, by decide +kernel⟩, by decide⟩
theorem ml_X4_134 : LinkV RX4 134 RX4 mX4_forbiddenMany 0 := ⟨lw_V q1634 q1636 qs36 q75 q1637, ⟨rfl, by decide +kernel, by decide +kernel, by decide +kernel⟩, by decide⟩
theorem ml_X0_132 : LinkV RX0 132 RX4 mX4_costAt 2 := ⟨lw_V q1638 q1639 q1640 q75 q1641, ⟨rfl, by decide +kernel, by decide +kernel, by decide +kernel⟩, by decide⟩
theorem ml_X4_75 : LinkV RX4 75 RX4 mX4_cost 2 := ⟨lw_V q1642 q1644 qs37 q75 q1645, ⟨rfl, by decide +kernel, by decide +kernel, by decide +kernel⟩, by decide⟩
theorem ml_X0_135 : LinkV RX0 135 RX4 mX4_addToRow 2 := ⟨lw_V q1646 q1647 q1648 q75 q1649, ⟨rfl, by decide +kernel, by decide +kernel, by decide +kernel⟩, by decide⟩
theorem ml_J2_69 : LinkV RJ2 69 RJ2 mJ2_grow_2 1 := ⟨lw_V q165 q167 qs2 q59 q168, ⟨rfl, by decide +kernel, by decide +kernel, by decide +kernel⟩, by decide⟩
theorem ml_X4_140 : LinkV RX4 140 RX4 mX4_takes 3 := ⟨lw_V q1651 q1653 qs38 q75 q1654, ⟨rfl, by decide +kernel, by decide +kernel, by decide +kernel⟩, by decide⟩
theorem ml_X4_144 : LinkV RX4 144 RX4 mX4_rowSum 1 := ⟨lw_V q1655 q1657 qs39 q75 q1658, ⟨rfl, by decide +kernel, by decide +kernel, by decide +kernel⟩, by decide⟩
theorem ml_X0_138 : LinkV RX0 138 RX4 mX4_addToColumn 2 := ⟨lw_V q1659 q1660 q1661 q75 q1662, ⟨rfl, by decide +kernel, by decide +kernel, by decide +kernel⟩, by decide⟩
theorem ml_X4_147 : LinkV RX4 147 RX4 mX4_columnSum 1 := ⟨lw_V q1663 q1665 qs40 q75 q1666, ⟨rfl, by decide +kernel, by decide +kernel, by decide +kernel⟩, by decide⟩
theorem ml_X0_141 : LinkV RX0 141 RX4 mX4_swapRows 2 := ⟨lw_V q1667 q1668 q1669 q75 q1670, ⟨rfl, by decide +kernel, by decide +kernel, by decide +kernel⟩, by decide⟩
theorem ml_X4_150 : LinkV RX4 150 RX4 mX4_exchangeCells 2 := ⟨lw_V q1671 q1673 qs41 q75 q1674, ⟨rfl, by decide +kernel, by decide +kernel, by decide +kernel⟩, by decide⟩
theorem ml_X0_144 : LinkV RX0 144 RX4 mX4_swapColumns 2 := ⟨lw_V q1675 q1676 q1677 q75 q1678, ⟨rfl, by decide +kernel, by decide +kernel, by decide +kernel⟩, by decide⟩
theorem ml_X0_148 : LinkV RX0 148 RX4 mX4_transpose 0 := ⟨lw_V q1679 q1680 q1681 q75 q1682, ⟨rfl, by decide +kernel, by decide +kernel, by decide +kernel⟩, by decide⟩
theorem ml_X0_152 : LinkV RX0 152 RX4 mX4_save 0 := ⟨lw_V q1683 q1684 q1685 q75 q1686, ⟨rfl, by decide +kernel, by decide +kernel, by decide +kernel⟩, by decide⟩
theorem ml_X4_153 : LinkV RX4 153 RX4 mX4_total 0 := ⟨lw_V q1687 q1689 qs42 q75 q1690, ⟨rfl, by decide +kernel, by decide +kernel, by decide +kernel⟩, by decide⟩
theorem ml_J2_73 : LinkS RJ2 73 mJ5_newLength 3 := ⟨lw_S q169 q170 q63 q171, ⟨by decide +kernel, by decide +kernel, by decide +kernel⟩, by decide⟩
theorem ml_X0_156 : LinkV RX0 156 RX4 mX4_restore 0 := ⟨lw_V q1691 q1692 q1693 q75 q1694, ⟨rfl, by decide +kernel, by decide +kernel, by decide +kernel⟩, by decide⟩
theorem ml_X0_160 : LinkV RX0 160 RX4 mX4_distance 0 := ⟨lw_V q1695 q1696 q1697 q75 q1698, ⟨rfl, by decide +kernel, by decide +kernel, by decide +kernel⟩, by decide⟩
theorem ml_X4_156 : LinkV RX4 156 RX4 mX4_savedCost 2 := ⟨lw_V q1699 q1701 qs43 q75 q1702, ⟨rfl, by decide +kernel, by decide +kernel, by decide +kernel⟩, by decide⟩
theorem ml_X0_164 : LinkV RX0 164 RX4 mX4_rows 0 := ⟨lw_V q1703 q1704 q1705 q75 q1706, ⟨rfl, by decide +kernel, by decide +kernel, by decide +kernel⟩, by decide⟩
theorem ml_X0_168 : LinkV RX0 168 RX4 mX4_columns 0 := ⟨lw_V q1707 q1708 q1709 q75 q1710, ⟨rfl, by decide +kernel, by decide +kernel, by decide +kernel⟩, by decide⟩
theorem ml_X0_172 : LinkV RX0 172 RX4 mX4_forbiddenCount 0 := ⟨lw_V q1711 q1712 q1713 q75 q1714, ⟨rfl, by decide +kernel, by decide +kernel, by decide +kernel⟩, by decide⟩
theorem ml_X0_176 : LinkV RX0 176 RX4 mX4_totalCost 0 := ⟨lw_V q1715 q1716 q1717 q75 q1718, ⟨rfl, by decide +kernel, by decide +kernel, by decide +kernel⟩, by decide⟩
theorem ml_X0_180 : LinkV RX0 180 RX4 mX4_minimum 0 := ⟨lw_V q1719 q1720 q1721 q75 q1722, ⟨rfl, by decide +kernel, by decide +kernel, by decide +kernel⟩, by decide⟩
theorem ml_J5_194 : LinkS RJ5 194 mJ6_max 2 := ⟨lw_S q172 q173 q64 q174, ⟨by decide +kernel, by decide +kernel, by decide +kernel⟩, by decide⟩
theorem ml_X4_114 : LinkV RX4 114 RX4 mX4_look 0 := ⟨lw_V q1723 q1725 qs44 q75 q1726, ⟨rfl, by decide +kernel, by decide +kernel, by decide +kernel⟩, by decide⟩
theorem ml_X4_108 : LinkV RX4 108 RX4 mX4_take 0 := ⟨lw_V q1727 q1729 qs45 q75 q1730, ⟨rfl, by decide +kernel, by decide +kernel, by decide +kernel⟩, by decide⟩
theorem ml_X4_111 : LinkV RX4 111 RX4 mX4_look_2 1 := ⟨lw_V q1731 q1733 qs46 q75 q1734, ⟨rfl, by decide +kernel, by decide +kernel, by decide +kernel⟩, by decide⟩
theorem ml_X4_95 : LinkV RX4 95 RX4 mX4_begin 0 := ⟨lw_V q1736 q1738 qs47 q75 q1739, ⟨rfl, by decide +kernel, by decide +kernel, by decide +kernel⟩, by decide⟩
theorem ml_X4_67 : LinkS RX4 67 mX4_factorial 1 := ⟨lw_S q1740 q1741 q75 q1742, ⟨by decide +kernel, by decide +kernel, by decide +kernel⟩, by decide⟩
theorem ml_X4_98 : LinkV RX4 98 RX4 mX4_sum 1 := ⟨lw_V q1743 q1745 qs48 q75 q1746, ⟨rfl, by decide +kernel, by decide +kernel, by decide +kernel⟩, by decide⟩
theorem ml_X4_101 : LinkV RX4 101 RX4 mX4_see 2 := ⟨lw_V q1747 q1749 qs49 q75 q1750, ⟨rfl, by decide +kernel, by decide +kernel, by decide +kernel⟩, by decide⟩
theorem ml_X4_104 : LinkV RX4 104 RX4 mX4_goOn 1 := ⟨lw_V q1751 q1753 qs50 q75 q1754, ⟨rfl, by decide +kernel, by decide +kernel, by decide +kernel⟩, by decide⟩
theorem ml_X4_71 : LinkV RX4 71 RX4 mX4_exchange 2 := ⟨lw_V q1755 q1757 qs51 q75 q1758, ⟨rfl, by decide +kernel, by decide +kernel, by decide +kernel⟩, by decide⟩
theorem ml_X0_184 : LinkV RX0 184 RX4 mX4_savedMinimum 0 := ⟨lw_V q1759 q1760 q1761 q75 q1762, ⟨rfl, by decide +kernel, by decide +kernel, by decide +kernel⟩, by decide⟩
theorem ml_J5_201 : LinkS RJ5 201 mJ5_hugeLength 2 := ⟨lw_S q176 q177 q63 q178, ⟨by decide +kernel, by decide +kernel, by decide +kernel⟩, by decide⟩
theorem ml_X0_188 : LinkV RX0 188 RX4 mX4_assigned 1 := ⟨lw_V q1763 q1764 q1765 q75 q1766, ⟨rfl, by decide +kernel, by decide +kernel, by decide +kernel⟩, by decide⟩
theorem ml_X0_192 : LinkV RX0 192 RX4 mX4_optimalCount 0 := ⟨lw_V q1767 q1768 q1769 q75 q1770, ⟨rfl, by decide +kernel, by decide +kernel, by decide +kernel⟩, by decide⟩
theorem ml_X0_195 : LinkV RX0 195 RX4 mX4_rowPotential 1 := ⟨lw_V q1771 q1772 q1773 q75 q1774, ⟨rfl, by decide +kernel, by decide +kernel, by decide +kernel⟩, by decide⟩
theorem ml_X4_159 : LinkV RX4 159 RX4 mX4_findPotentials 0 := ⟨lw_V q1775 q1777 qs52 q75 q1778, ⟨rfl, by decide +kernel, by decide +kernel, by decide +kernel⟩, by decide⟩
theorem ml_X0_198 : LinkV RX0 198 RX4 mX4_columnPotential 1 := ⟨lw_V q1779 q1780 q1781 q75 q1782, ⟨rfl, by decide +kernel, by decide +kernel, by decide +kernel⟩, by decide⟩
theorem ml_X0_201 : LinkV RX0 201 RX4 mX4_reducedCost 2 := ⟨lw_V q1783 q1784 q1785 q75 q1786, ⟨rfl, by decide +kernel, by decide +kernel, by decide +kernel⟩, by decide⟩
theorem ml_X4_162 : LinkV RX4 162 RX4 mX4_reduced 2 := ⟨lw_V q1787 q1789 qs53 q75 q1790, ⟨rfl, by decide +kernel, by decide +kernel, by decide +kernel⟩, by decide⟩
theorem ml_J2_66 : LinkS RJ2 66 mJ7_copyOf 2 := ⟨lw_S q179 q180 q65 q181, ⟨by decide +kernel, by decide +kernel, by decide +kernel⟩, by decide⟩
theorem ml_X0_204 : LinkV RX0 204 RX4 mX4_minimumWith 2 := ⟨lw_V q1791 q1792 q1793 q75 q1794, ⟨rfl, by decide +kernel, by decide +kernel, by decide +kernel⟩, by decide⟩
theorem ml_X0_207 : LinkV RX0 207 RX4 mX4_minimumWithout 2 := ⟨lw_V q1795 q1796 q1797 q75 q1798, ⟨rfl, by decide +kernel, by decide +kernel, by decide +kernel⟩, by decide⟩
theorem ml_X4_165 : LinkV RX4 165 RX4 mX4_without 2 := ⟨lw_V q1799 q1801 qs54 q75 q1802, ⟨rfl, by decide +kernel, by decide +kernel, by decide +kernel⟩, by decide⟩
theorem ml_X0_210 : LinkV RX0 210 RX4 mX4_minimumIfCost 3 := ⟨lw_V q1803 q1804 q1805 q75 q1806, ⟨rfl, by decide +kernel, by decide +kernel, by decide +kernel⟩, by decide⟩
theorem ml_X0_214 : LinkV RX0 214 RX4 mX4_secondBest 0 := ⟨lw_V q1807 q1808 q1809 q75 q1810, ⟨rfl, by decide +kernel, by decide +kernel, by decide +kernel⟩, by decide⟩
theorem ml_X0_218 : LinkV RX0 218 RX4 mX4_maximum 0 := ⟨lw_V q1811 q1812 q1813 q75 q1814, ⟨rfl, by decide +kernel, by decide +kernel, by decide +kernel⟩, by decide⟩
theorem ml_X0_222 : LinkV RX0 222 RX4 mX4_bottleneck 0 := ⟨lw_V q1815 q1816 q1817 q75 q1818, ⟨rfl, by decide +kernel, by decide +kernel, by decide +kernel⟩, by decide⟩
theorem ml_X0_225 : LinkV RX0 225 RX4 mX4_fits 1 := ⟨lw_V q1819 q1820 q1821 q75 q1822, ⟨rfl, by decide +kernel, by decide +kernel, by decide +kernel⟩, by decide⟩
theorem ml_X0_228 : LinkV RX0 228 RX4 mX4_countWithin 1 := ⟨lw_V q1824 q1825 q1826 q75 q1827, ⟨rfl, by decide +kernel, by decide +kernel, by decide +kernel⟩, by decide⟩
theorem ml_X0_231 : LinkV RX0 231 RX4 mX4_sumOf 1 := ⟨lw_V q1829 q1830 q1831 q75 q1832, ⟨rfl, by decide +kernel, by decide +kernel, by decide +kernel⟩, by decide⟩
theorem ml_X0_234 : LinkV RX0 234 RX4 mX4_startEnumeration 0 := ⟨lw_V q1833 q1834 q1835 q75 q1836, ⟨rfl, by decide +kernel, by decide +kernel, by decide +kernel⟩, by decide⟩
theorem ml_X0_237 : LinkV RX0 237 RX4 mX4_nextSum 0 := ⟨lw_V q1837 q1838 q1839 q75 q1840, ⟨rfl, by decide +kernel, by decide +kernel, by decide +kernel⟩, by decide⟩
theorem ml_X0_240 : LinkV RX0 240 RX4 mX4_currentColumn 1 := ⟨lw_V q1841 q1842 q1843 q75 q1844, ⟨rfl, by decide +kernel, by decide +kernel, by decide +kernel⟩, by decide⟩
theorem ml_X0_244 : LinkV RX0 244 RX4 mX4_stepsMade 0 := ⟨lw_V q1845 q1846 q1847 q75 q1848, ⟨rfl, by decide +kernel, by decide +kernel, by decide +kernel⟩, by decide⟩
theorem ml_X0_249 : LinkV RX0 249 RX4 mX4_meanCost 0 := ⟨lw_V q1849 q1850 q1851 q75 q1852, ⟨rfl, by decide +kernel, by decide +kernel, by decide +kernel⟩, by decide⟩
theorem ml_X0_253 : LinkV RX0 253 RX4 mX4_shareOf 1 := ⟨lw_V q1853 q1854 q1855 q75 q1856, ⟨rfl, by decide +kernel, by decide +kernel, by decide +kernel⟩, by decide⟩
theorem ml_X0_258 : LinkV RX0 258 RX4 mX4_checksum 0 := ⟨lw_V q1857 q1858 q1859 q75 q1860, ⟨rfl, by decide +kernel, by decide +kernel, by decide +kernel⟩, by decide⟩
theorem ml_X0_263 : LinkV RX0 263 RX4 mX4_isSound 0 := ⟨lw_V q1863 q1864 q1865 q75 q1866, ⟨rfl, by decide +kernel, by decide +kernel, by decide +kernel⟩, by decide⟩
theorem ml_X4_182 : LinkV RX4 182 RX4 mX4_fits 1 := ⟨lw_V q1867 q1820 q1821 q75 q1822, ⟨rfl, by decide +kernel, by decide +kernel, by decide +kernel⟩, by decide⟩
theorem ml_J7_300 : LinkS RJ7 300 mJ7_copyOf_2 3 := ⟨lw_S q204 q205 q65 q206, ⟨by decide +kernel, by decide +kernel, by decide +kernel⟩, by decide⟩
theorem ml_J7_304 : LinkS RJ7 304 mJ6_min 2 := ⟨lw_S q210 q211 q64 q212, ⟨by decide +kernel, by decide +kernel, by decide +kernel⟩, by decide⟩
theorem ml_J2_79 : LinkS RJ2 79 mJ6_max 2 := ⟨lw_S q216 q173 q64 q174, ⟨by decide +kernel, by decide +kernel, by decide +kernel⟩, by decide⟩
theorem ml_X1_66 : LinkI RX1 66 mJ9_init 1 := ⟨⟨lw_meth q233, rfl, q68, q231, q232, rfl⟩, ⟨by decide +kernel, by decide +kernel, by decide +kernel⟩, by decide⟩
theorem ml_J9_3 : LinkI RJ9 3 mJ9_init_2 2 := ⟨⟨lw_meth q236, rfl, q68, q234, q235, rfl⟩, ⟨by decide +kernel, by decide +kernel, by decide +kernel⟩, by decide⟩
theorem ml_J9_7 : LinkI RJ9 7 mJ8_init 0 := ⟨⟨lw_meth q239, rfl, q67, q237, q238, rfl⟩, ⟨by decide +kernel, by decide +kernel, by decide +kernel⟩, by decide⟩
theorem ml_J8_1 : LinkI RJ8 1 mJ0_init 0 := ⟨⟨lw_meth q114, rfl, q57, q240, q113, rfl⟩, ⟨by decide +kernel, by decide +kernel, by decide +kernel⟩, by decide⟩
theorem ml_X0_149 : LinkV RX0 149 RX1 mX1_save 0 := ⟨lw_V q407 q408 q409 q56 q410, ⟨rfl, by decide +kernel, by decide +kernel, by decide +kernel⟩, by decide⟩
theorem ml_X1_227 : LinkS RX1 227 mX1_copyOf 1 := ⟨lw_S q411 q412 q56 q413, ⟨by decide +kernel, by decide +kernel, by decide +kernel⟩, by decide⟩
theorem ml_X1_104 : LinkV RX1 104 RJ2 mJ2_iterator 0 := ⟨lw_V q414 q415 q416 q59 q417, ⟨rfl, by decide +kernel, by decide +kernel, by decide +kernel⟩, by decide⟩
theorem ml_J2_269 : LinkI RJ2 269 mJ19_init 1 := ⟨⟨lw_meth q422, rfl, q81, q420, q421, rfl⟩, ⟨by decide +kernel, by decide +kernel, by decide +kernel⟩, by decide⟩
theorem ml_J19_31 : LinkV RJ19 31 RJ19 mJ19_checkForComodification 0 := ⟨lw_V q456 q457 q458 q81 q459, ⟨rfl, by decide +kernel, by decide +kernel, by decide +kernel⟩, by decide⟩
theorem ml_X1_231 : LinkV RX1 231 RX1 mX1_totalCost 0 := ⟨lw_V q476 q477 q478 q56 q479, ⟨rfl, by decide +kernel, by decide +kernel, by decide +kernel⟩, by decide⟩
theorem ml_X1_212 : LinkV RX1 212 RX1 mX1_rowSum 1 := ⟨lw_V q480 q482 qs4 q56 q483, ⟨rfl, by decide +kernel, by decide +kernel, by decide +kernel⟩, by decide⟩
theorem ml_X1_131 : LinkV RX1 131 RJ2 mJ2_get 1 := ⟨lw_V q484 q485 q486 q59 q487, ⟨rfl, by decide +kernel, by decide +kernel, by decide +kernel⟩, by decide⟩
theorem ml_J2_118 : LinkS RJ2 118 mJ17_checkIndex 2 := ⟨lw_S q488 q489 q79 q490, ⟨by decide +kernel, by decide +kernel, by decide +kernel⟩, by decide⟩
theorem ml_J17_105 : LinkS RJ17 105 mJ18_checkIndex 3 := ⟨lw_S q491 q492 q80 q493, ⟨by decide +kernel, by decide +kernel, by decide +kernel⟩, by decide⟩
theorem ml_J2_123 : LinkV RJ2 123 RJ2 mJ2_elementData 1 := ⟨lw_V q494 q495 q496 q59 q497, ⟨rfl, by decide +kernel, by decide +kernel, by decide +kernel⟩, by decide⟩
theorem ml_X1_135 : LinkV RX1 135 RJ4 mJ4_intValue 0 := ⟨lw_V q498 q499 q500 q61 q501, ⟨rfl, by decide +kernel, by decide +kernel, by decide +kernel⟩, by decide⟩
theorem ml_X1_139 : LinkS RX1 139 mX1_costOf 1 := ⟨lw_S q502 q503 q56 q504, ⟨by decide +kernel, by decide +kernel, by decide +kernel⟩, by decide⟩
theorem ml_X0_153 : LinkV RX0 153 RX1 mX1_restore 0 := ⟨lw_V q505 q506 q507 q56 q508, ⟨rfl, by decide +kernel, by decide +kernel, by decide +kernel⟩, by decide⟩
theorem ml_X1_166 : LinkV RX1 166 RX1 mX1_cancel 0 := ⟨lw_V q509 q511 qs5 q56 q512, ⟨rfl, by decide +kernel, by decide +kernel, by decide +kernel⟩, by decide⟩
theorem ml_X1_157 : LinkV RX1 157 RJ9 mJ9_clear 0 := ⟨lw_V q513 q514 q515 q68 q516, ⟨rfl, by decide +kernel, by decide +kernel, by decide +kernel⟩, by decide⟩
theorem ml_X0_157 : LinkV RX0 157 RX1 mX1_distance 0 := ⟨lw_V q517 q518 q519 q56 q520, ⟨rfl, by decide +kernel, by decide +kernel, by decide +kernel⟩, by decide⟩
theorem ml_X1_204 : LinkV RX1 204 RX1 mX1_costHere 2 := ⟨lw_V q521 q523 qs6 q56 q524, ⟨rfl, by decide +kernel, by decide +kernel, by decide +kernel⟩, by decide⟩
theorem ml_X1_143 : LinkV RX1 143 RX1 mX1_costIn 4 := ⟨lw_V q525 q527 qs7 q56 q528, ⟨rfl, by decide +kernel, by decide +kernel, by decide +kernel⟩, by decide⟩
theorem ml_X1_234 : LinkS RX1 234 mJ6_abs 1 := ⟨lw_S q529 q530 q64 q531, ⟨by decide +kernel, by decide +kernel, by decide +kernel⟩, by decide⟩
theorem ml_X0_161 : LinkV RX0 161 RX1 mX1_rows 0 := ⟨lw_V q532 q533 q534 q56 q535, ⟨rfl, by decide +kernel, by decide +kernel, by decide +kernel⟩, by decide⟩
theorem ml_X0_165 : LinkV RX0 165 RX1 mX1_columns 0 := ⟨lw_V q536 q537 q538 q56 q539, ⟨rfl, by decide +kernel, by decide +kernel, by decide +kernel⟩, by decide⟩
theorem ml_X0_169 : LinkV RX0 169 RX1 mX1_forbiddenCount 0 := ⟨lw_V q540 q541 q542 q56 q543, ⟨rfl, by decide +kernel, by decide +kernel, by decide +kernel⟩, by decide⟩
theorem ml_X0_173 : LinkV RX0 173 RX1 mX1_totalCost 0 := ⟨lw_V q544 q477 q478 q56 q479, ⟨rfl, by decide +kernel, by decide +kernel, by decide +kernel⟩, by decide⟩
theorem ml_X0_177 : LinkV RX0 177 RX1 mX1_minimum 0 := ⟨lw_V q545 q546 q547 q56 q548, ⟨rfl, by decide +kernel, by decide +kernel, by decide +kernel⟩, by decide⟩
theorem ml_X1_284 : LinkV RX1 284 RX1 mX1_load 0 := ⟨lw_V q549 q551 qs8 q56 q552, ⟨rfl, by decide +kernel, by decide +kernel, by decide +kernel⟩, by decide⟩
theorem ml_X1_240 : LinkV RX1 240 RX1 mX1_load_2 3 := ⟨lw_V q553 q555 qs9 q56 q556, ⟨rfl, by decide +kernel, by decide +kernel, by decide +kernel⟩, by decide⟩
theorem ml_X1_286 : LinkV RX1 286 RX1 mX1_solve 0 := ⟨lw_V q557 q559 qs10 q56 q560, ⟨rfl, by decide +kernel, by decide +kernel, by decide +kernel⟩, by decide⟩
theorem ml_X1_277 : LinkV RX1 277 RX1 mX1_augment 1 := ⟨lw_V q561 q563 qs11 q56 q564, ⟨rfl, by decide +kernel, by decide +kernel, by decide +kernel⟩, by decide⟩
theorem ml_X1_190 : LinkS RX1 190 mJ6_min 2 := ⟨lw_S q566 q211 q64 q212, ⟨by decide +kernel, by decide +kernel, by decide +kernel⟩, by decide⟩
theorem ml_X1_268 : LinkV RX1 268 RX1 mX1_beginPaths 0 := ⟨lw_V q567 q569 qs12 q56 q570, ⟨rfl, by decide +kernel, by decide +kernel, by decide +kernel⟩, by decide⟩
theorem ml_X1_271 : LinkV RX1 271 RX1 mX1_relaxColumns 2 := ⟨lw_V q571 q573 qs13 q56 q574, ⟨rfl, by decide +kernel, by decide +kernel, by decide +kernel⟩, by decide⟩
theorem ml_X1_262 : LinkV RX1 262 RX1 mX1_reducedHere 2 := ⟨lw_V q575 q577 qs14 q56 q578, ⟨rfl, by decide +kernel, by decide +kernel, by decide +kernel⟩, by decide⟩
theorem ml_X1_265 : LinkV RX1 265 RX1 mX1_offer 2 := ⟨lw_V q579 q581 qs15 q56 q582, ⟨rfl, by decide +kernel, by decide +kernel, by decide +kernel⟩, by decide⟩
theorem ml_X1_249 : LinkI RX1 249 mX5_init 3 := ⟨⟨lw_meth q587, rfl, q88, q585, q586, rfl⟩, ⟨by decide +kernel, by decide +kernel, by decide +kernel⟩, by decide⟩
theorem ml_X1_252 : LinkV RX1 252 RJ9 mJ9_offer 1 := ⟨lw_V q602 q603 q604 q68 q605, ⟨rfl, by decide +kernel, by decide +kernel, by decide +kernel⟩, by decide⟩
theorem ml_J9_96 : LinkV RJ9 96 RJ9 mJ9_grow 1 := ⟨lw_V q606 q608 qs16 q68 q609, ⟨rfl, by decide +kernel, by decide +kernel, by decide +kernel⟩, by decide⟩
theorem ml_J9_80 : LinkS RJ9 80 mJ5_newLength 3 := ⟨lw_S q610 q170 q63 q171, ⟨by decide +kernel, by decide +kernel, by decide +kernel⟩, by decide⟩
theorem ml_J9_86 : LinkS RJ9 86 mJ7_copyOf 2 := ⟨lw_S q611 q180 q65 q181, ⟨by decide +kernel, by decide +kernel, by decide +kernel⟩, by decide⟩
theorem ml_J9_100 : LinkV RJ9 100 RJ9 mJ9_siftUp 2 := ⟨lw_V q612 q614 qs17 q68 q615, ⟨rfl, by decide +kernel, by decide +kernel, by decide +kernel⟩, by decide⟩
theorem ml_J9_136 : LinkS RJ9 136 mJ9_siftUpUsingComparator 4 := ⟨lw_S q616 q617 q68 q618, ⟨by decide +kernel, by decide +kernel, by decide +kernel⟩, by decide⟩
theorem ml_X3_25 : LinkV RX3 25 RX3 mX3_compare_2 2 := ⟨lw_V q630 q631 q632 q74 q633, ⟨rfl, by decide +kernel, by decide +kernel, by decide +kernel⟩, by decide⟩
theorem ml_X3_13 : LinkS RX3 13 mJ4_compare 2 := ⟨lw_S q634 q635 q61 q636, ⟨by decide +kernel, by decide +kernel, by decide +kernel⟩, by decide⟩
theorem ml_X2_22 : LinkV RX2 22 RX2 mX2_compare_2 2 := ⟨lw_V q644 q645 q646 q69 q647, ⟨rfl, by decide +kernel, by decide +kernel, by decide +kernel⟩, by decide⟩
theorem ml_X2_13 : LinkS RX2 13 mJ4_compare 2 := ⟨lw_S q648 q635 q61 q636, ⟨by decide +kernel, by decide +kernel, by decide +kernel⟩, by decide⟩
theorem ml_J9_140 : LinkS RJ9 140 mJ9_siftUpComparable 3 := ⟨lw_S q649 q650 q68 q651, ⟨by decide +kernel, by decide +kernel, by decide +kernel⟩, by decide⟩
theorem ml_J4_284 : LinkV RJ4 284 RJ4 mJ4_compareTo_2 1 := ⟨lw_V q663 q664 q665 q61 q666, ⟨rfl, by decide +kernel, by decide +kernel, by decide +kernel⟩, by decide⟩
theorem ml_J4_259 : LinkS RJ4 259 mJ4_compare 2 := ⟨lw_S q667 q635 q61 q636, ⟨by decide +kernel, by decide +kernel, by decide +kernel⟩, by decide⟩
theorem ml_J5_122 : LinkS RJ5 122 mJ5_vectorizedMismatch 6 := ⟨lw_S q699 q700 q63 q701, ⟨by decide +kernel, by decide +kernel, by decide +kernel⟩, by decide⟩
theorem ml_J5_58 : LinkS RJ5 58 mJ4_numberOfLeadingZeros 1 := ⟨lw_S q794 q764 q61 q765, ⟨by decide +kernel, by decide +kernel, by decide +kernel⟩, by decide⟩
theorem ml_J5_11 : LinkS RJ5 11 mJ4_numberOfTrailingZeros 1 := ⟨lw_S q795 q773 q61 q774, ⟨by decide +kernel, by decide +kernel, by decide +kernel⟩, by decide⟩
theorem ml_X1_274 : LinkV RX1 274 RX1 mX1_settleNext 0 := ⟨lw_V q877 q879 qs18 q56 q880, ⟨rfl, by decide +kernel, by decide +kernel, by decide +kernel⟩, by decide⟩
theorem ml_X1_256 : LinkV RX1 256 RJ9 mJ9_poll 0 := ⟨lw_V q881 q882 q883 q68 q884, ⟨rfl, by decide +kernel, by decide +kernel, by decide +kernel⟩, by decide⟩
theorem ml_J9_125 : LinkS RJ9 125 mJ9_siftDownComparable 4 := ⟨lw_S q885 q886 q68 q887, ⟨by decide +kernel, by decide +kernel, by decide +kernel⟩, by decide⟩
theorem ml_J9_129 : LinkS RJ9 129 mJ9_siftDownUsingComparator 5 := ⟨lw_S q888 q889 q68 q890, ⟨by decide +kernel, by decide +kernel, by decide +kernel⟩, by decide⟩
theorem ml_X0_181 : LinkV RX0 181 RX1 mX1_savedMinimum 0 := ⟨lw_V q891 q892 q893 q56 q894, ⟨rfl, by decide +kernel, by decide +kernel, by decide +kernel⟩, by decide⟩
theorem ml_X0_189 : LinkV RX0 189 RX1 mX1_optimalCount 0 := ⟨lw_V q895 q896 q897 q56 q898, ⟨rfl, by decide +kernel, by decide +kernel, by decide +kernel⟩, by decide⟩
theorem ml_X1_289 : LinkV RX1 289 RX1 mX1_countOptimal 0 := ⟨lw_V q899 q901 qs19 q56 q902, ⟨rfl, by decide +kernel, by decide +kernel, by decide +kernel⟩, by decide⟩
theorem ml_X1_281 : LinkS RX1 281 mJ4_bitCount 1 := ⟨lw_S q903 q904 q61 q905, ⟨by decide +kernel, by decide +kernel, by decide +kernel⟩, by decide⟩
theorem ml_X0_211 : LinkV RX0 211 RX1 mX1_secondBest 0 := ⟨lw_V q909 q910 q911 q56 q912, ⟨rfl, by decide +kernel, by decide +kernel, by decide +kernel⟩, by decide⟩
theorem ml_X1_292 : LinkV RX1 292 RX1 mX1_findFirst 0 := ⟨lw_V q913 q915 qs20 q56 q916, ⟨rfl, by decide +kernel, by decide +kernel, by decide +kernel⟩, by decide⟩
theorem ml_X1_298 : LinkV RX1 298 RX1 mX1_minimumWithout 2 := ⟨lw_V q917 q918 q919 q56 q920, ⟨rfl, by decide +kernel, by decide +kernel, by decide +kernel⟩, by decide⟩
theorem ml_X1_169 : LinkV RX1 169 RX1 mX1_isRow 1 := ⟨lw_V q921 q923 qs21 q56 q924, ⟨rfl, by decide +kernel, by decide +kernel, by decide +kernel⟩, by decide⟩
theorem ml_X1_127 : LinkS RX1 127 mX1_isIn 3 := ⟨lw_S q925 q926 q56 q927, ⟨by decide +kernel, by decide +kernel, by decide +kernel⟩, by decide⟩
theorem ml_X1_176 : LinkS RX1 176 mX1_needPlace 1 := ⟨lw_S q928 q929 q56 q930, ⟨by decide +kernel, by decide +kernel, by decide +kernel⟩, by decide⟩
theorem ml_X0_215 : LinkV RX0 215 RX1 mX1_maximum 0 := ⟨lw_V q946 q947 q948 q56 q949, ⟨rfl, by decide +kernel, by decide +kernel, by decide +kernel⟩, by decide⟩
theorem ml_X0_100 : LinkI RX0 100 mX1_init 0 := ⟨⟨lw_meth q97, rfl, q56, q95, q96, rfl⟩, ⟨by decide +kernel, by decide +kernel, by decide +kernel⟩, by decide⟩
theorem ml_X0_219 : LinkV RX0 219 RX1 mX1_bottleneck 0 := ⟨lw_V q950 q951 q952 q56 q953, ⟨rfl, by decide +kernel, by decide +kernel, by decide +kernel⟩, by decide⟩
theorem ml_X1_305 : LinkV RX1 305 RX1 mX1_isEnough 1 := ⟨lw_V q954 q956 qs22 q56 q957, ⟨rfl, by decide +kernel, by decide +kernel, by decide +kernel⟩, by decide⟩
theorem ml_X1_301 : LinkV RX1 301 RX1 mX1_seeks 2 := ⟨lw_V q958 q960 qs23 q56 q961, ⟨rfl, by decide +kernel, by decide +kernel, by decide +kernel⟩, by decide⟩
theorem ml_X0_241 : LinkV RX0 241 RX1 mX1_stepsMade 0 := ⟨lw_V q962 q963 q964 q56 q965, ⟨rfl, by decide +kernel, by decide +kernel, by decide +kernel⟩, by decide⟩
theorem ml_X0_245 : LinkV RX0 245 RX1 mX1_meanCost 0 := ⟨lw_V q966 q967 q968 q56 q969, ⟨rfl, by decide +kernel, by decide +kernel, by decide +kernel⟩, by decide⟩
theorem ml_X0_254 : LinkV RX0 254 RX1 mX1_checksum 0 := ⟨lw_V q970 q971 q972 q56 q973, ⟨rfl, by decide +kernel, by decide +kernel, by decide +kernel⟩, by decide⟩
theorem ml_X1_201 : LinkV RX1 201 RX1 mX1_forbiddenCount 0 := ⟨lw_V q975 q541 q542 q56 q543, ⟨rfl, by decide +kernel, by decide +kernel, by decide +kernel⟩, by decide⟩
theorem ml_X1_350 : LinkV RX1 350 RX1 mX1_stepsMade 0 := ⟨lw_V q976 q963 q964 q56 q965, ⟨rfl, by decide +kernel, by decide +kernel, by decide +kernel⟩, by decide⟩
theorem ml_X0_259 : LinkV RX0 259 RX1 mX1_isSound 0 := ⟨lw_V q978 q979 q980 q56 q981, ⟨rfl, by decide +kernel, by decide +kernel, by decide +kernel⟩, by decide⟩
theorem ml_X1_295 : LinkV RX1 295 RX1 mX1_findPotentials 0 := ⟨lw_V q982 q984 qs24 q56 q985, ⟨rfl, by decide +kernel, by decide +kernel, by decide +kernel⟩, by decide⟩
theorem ml_X1_355 : LinkV RX1 355 RX1 mX1_minimumWith 2 := ⟨lw_V q986 q987 q988 q56 q989, ⟨rfl, by decide +kernel, by decide +kernel, by decide +kernel⟩, by decide⟩
theorem ml_X1_358 : LinkV RX1 358 RX1 mX1_bottleneck 0 := ⟨lw_V q990 q951 q952 q56 q953, ⟨rfl, by decide +kernel, by decide +kernel, by decide +kernel⟩, by decide⟩
theorem ml_X0_7 : LinkV RX0 7 RX1 mX1_resize 2 := ⟨lw_V q995 q996 q997 q56 q998, ⟨rfl, by decide +kernel, by decide +kernel, by decide +kernel⟩, by decide⟩
theorem ml_X1_108_J19 : LinkF RX1 108 RJ19 yHas mJ19_hasNext 0 := ⟨lw_app (by intro w hw; simp only [List.mem_cons, List.not_mem_nil, or_false] at hw; rcases hw with e | e | e | e; (rw [e]; exact q438); (rw [e]; exact q442); (rw [e]; exact q444); (rw [e]; exact q81)) (lw_meth q446), ⟨by decide +kernel, by decide +kernel, by decide +kernel⟩, by decide, by decide +kernel⟩
theorem ml_X1_114_J19 : LinkF RX1 114 RJ19 yNext mJ19_next 0 := ⟨lw_app (by intro w hw; simp only [List.mem_cons, List.not_mem_nil, or_false] at hw; rcases hw with e | e | e | e; (rw [e]; exact q448); (rw [e]; exact q451); (rw [e]; exact q453); (rw [e]; exact q81)) (lw_meth q455), ⟨by decide +kernel, by decide +kernel, by decide +kernel⟩, by decide, by decide +kernel⟩
theorem ml_J9_149_X2 : LinkF RJ9 149 RX2 yCmp mX2_compare 2 := ⟨lw_app (by intro w hw; simp only [List.mem_cons, List.not_mem_nil, or_false] at hw; rcases hw with e | e | e | e; (rw [e]; exact q620); (rw [e]; exact q638); (rw [e]; exact q640); (rw [e]; exact q69)) (lw_meth q642), ⟨by decide +kernel, by decide +kernel, by decide +kernel⟩, by decide, by decide +kernel⟩
theorem ml_J9_149_X3 : LinkF RJ9 149 RX3 yCmp mX3_compare 2 := ⟨lw_app (by intro w hw; simp only [List.mem_cons, List.not_mem_nil, or_false] at hw; rcases hw with e | e | e | e; (rw [e]; exact q620); (rw [e]; exact q624); (rw [e]; exact q626); (rw [e]; exact q74)) (lw_meth q628), ⟨by decide +kernel, by decide +kernel, by decide +kernel⟩, by decide, by decide +kernel⟩
