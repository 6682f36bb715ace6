/-! PERMUTATIONS, joined -/
set_option maxRecDepth 100000
theorem la7_0 : ((pmR 7 6 [0]).map (0 :: ·)).getLast? = some [0, 6, 5, 4, 3, 2, 1] := by decide +kernel
theorem fi7_0 : ((pmR 7 6 [0]).map (0 :: ·)).head? = some [0, 1, 2, 3, 4, 5, 6] := by decide +kernel
theorem la7_1 : ((pmR 7 6 [1]).map (1 :: ·)).getLast? = some [1, 6, 5, 4, 3, 2, 0] := by decide +kernel
theorem fi7_1 : ((pmR 7 6 [1]).map (1 :: ·)).head? = some [1, 0, 2, 3, 4, 5, 6] := by decide +kernel
theorem la7_2 : ((pmR 7 6 [2]).map (2 :: ·)).getLast? = some [2, 6, 5, 4, 3, 1, 0] := by decide +kernel
theorem fi7_2 : ((pmR 7 6 [2]).map (2 :: ·)).head? = some [2, 0, 1, 3, 4, 5, 6] := by decide +kernel
theorem la7_3 : ((pmR 7 6 [3]).map (3 :: ·)).getLast? = some [3, 6, 5, 4, 2, 1, 0] := by decide +kernel
theorem fi7_3 : ((pmR 7 6 [3]).map (3 :: ·)).head? = some [3, 0, 1, 2, 4, 5, 6] := by decide +kernel
theorem la7_4 : ((pmR 7 6 [4]).map (4 :: ·)).getLast? = some [4, 6, 5, 3, 2, 1, 0] := by decide +kernel
theorem fi7_4 : ((pmR 7 6 [4]).map (4 :: ·)).head? = some [4, 0, 1, 2, 3, 5, 6] := by decide +kernel
theorem la7_5 : ((pmR 7 6 [5]).map (5 :: ·)).getLast? = some [5, 6, 4, 3, 2, 1, 0] := by decide +kernel
theorem fi7_5 : ((pmR 7 6 [5]).map (5 :: ·)).head? = some [5, 0, 1, 2, 3, 4, 6] := by decide +kernel
theorem la7_6 : ((pmR 7 6 [6]).map (6 :: ·)).getLast? = some [6, 5, 4, 3, 2, 1, 0] := by decide +kernel
theorem fi7_6 : ((pmR 7 6 [6]).map (6 :: ·)).head? = some [6, 0, 1, 2, 3, 4, 5] := by decide +kernel
theorem hd7_6 : ((pmR 7 6 [6]).map (6 :: ·)).head? = some [6, 0, 1, 2, 3, 4, 5] := fi7_6
theorem hd7_5 : ((pmR 7 6 [5]).map (5 :: ·) ++ (pmR 7 6 [6]).map (6 :: ·)).head? = some [5, 0, 1, 2, 3, 4, 6] := by rw [List.head?_append, fi7_5]; rfl
theorem hd7_4 : ((pmR 7 6 [4]).map (4 :: ·) ++ ((pmR 7 6 [5]).map (5 :: ·) ++ (pmR 7 6 [6]).map (6 :: ·))).head? = some [4, 0, 1, 2, 3, 5, 6] := by rw [List.head?_append, fi7_4]; rfl
theorem hd7_3 : ((pmR 7 6 [3]).map (3 :: ·) ++ ((pmR 7 6 [4]).map (4 :: ·) ++ ((pmR 7 6 [5]).map (5 :: ·) ++ (pmR 7 6 [6]).map (6 :: ·)))).head? = some [3, 0, 1, 2, 4, 5, 6] := by rw [List.head?_append, fi7_3]; rfl
theorem hd7_2 : ((pmR 7 6 [2]).map (2 :: ·) ++ ((pmR 7 6 [3]).map (3 :: ·) ++ ((pmR 7 6 [4]).map (4 :: ·) ++ ((pmR 7 6 [5]).map (5 :: ·) ++ (pmR 7 6 [6]).map (6 :: ·))))).head? = some [2, 0, 1, 3, 4, 5, 6] := by rw [List.head?_append, fi7_2]; rfl
theorem hd7_1 : ((pmR 7 6 [1]).map (1 :: ·) ++ ((pmR 7 6 [2]).map (2 :: ·) ++ ((pmR 7 6 [3]).map (3 :: ·) ++ ((pmR 7 6 [4]).map (4 :: ·) ++ ((pmR 7 6 [5]).map (5 :: ·) ++ (pmR 7 6 [6]).map (6 :: ·)))))).head? = some [1, 0, 2, 3, 4, 5, 6] := by rw [List.head?_append, fi7_1]; rfl
theorem hd7_0 : ((pmR 7 6 [0]).map (0 :: ·) ++ ((pmR 7 6 [1]).map (1 :: ·) ++ ((pmR 7 6 [2]).map (2 :: ·) ++ ((pmR 7 6 [3]).map (3 :: ·) ++ ((pmR 7 6 [4]).map (4 :: ·) ++ ((pmR 7 6 [5]).map (5 :: ·) ++ (pmR 7 6 [6]).map (6 :: ·))))))).head? = some [0, 1, 2, 3, 4, 5, 6] := by rw [List.head?_append, fi7_0]; rfl
theorem nc7_6 : nchk 7 ((pmR 7 6 [6]).map (6 :: ·)) = true := ck7_6
theorem nc7_5 : nchk 7 ((pmR 7 6 [5]).map (5 :: ·) ++ (pmR 7 6 [6]).map (6 :: ·)) = true := nchk_app ck7_5 nc7_6 (fun a b ha hb => by rw [la7_5] at ha; rw [hd7_6] at hb; cases ha; cases hb; decide +kernel)
theorem nc7_4 : nchk 7 ((pmR 7 6 [4]).map (4 :: ·) ++ ((pmR 7 6 [5]).map (5 :: ·) ++ (pmR 7 6 [6]).map (6 :: ·))) = true := nchk_app ck7_4 nc7_5 (fun a b ha hb => by rw [la7_4] at ha; rw [hd7_5] at hb; cases ha; cases hb; decide +kernel)
theorem nc7_3 : nchk 7 ((pmR 7 6 [3]).map (3 :: ·) ++ ((pmR 7 6 [4]).map (4 :: ·) ++ ((pmR 7 6 [5]).map (5 :: ·) ++ (pmR 7 6 [6]).map (6 :: ·)))) = true := nchk_app ck7_3 nc7_4 (fun a b ha hb => by rw [la7_3] at ha; rw [hd7_4] at hb; cases ha; cases hb; decide +kernel)
theorem nc7_2 : nchk 7 ((pmR 7 6 [2]).map (2 :: ·) ++ ((pmR 7 6 [3]).map (3 :: ·) ++ ((pmR 7 6 [4]).map (4 :: ·) ++ ((pmR 7 6 [5]).map (5 :: ·) ++ (pmR 7 6 [6]).map (6 :: ·))))) = true := nchk_app ck7_2 nc7_3 (fun a b ha hb => by rw [la7_2] at ha; rw [hd7_3] at hb; cases ha; cases hb; decide +kernel)
theorem nc7_1 : nchk 7 ((pmR 7 6 [1]).map (1 :: ·) ++ ((pmR 7 6 [2]).map (2 :: ·) ++ ((pmR 7 6 [3]).map (3 :: ·) ++ ((pmR 7 6 [4]).map (4 :: ·) ++ ((pmR 7 6 [5]).map (5 :: ·) ++ (pmR 7 6 [6]).map (6 :: ·)))))) = true := nchk_app ck7_1 nc7_2 (fun a b ha hb => by rw [la7_1] at ha; rw [hd7_2] at hb; cases ha; cases hb; decide +kernel)
theorem nc7_0 : nchk 7 ((pmR 7 6 [0]).map (0 :: ·) ++ ((pmR 7 6 [1]).map (1 :: ·) ++ ((pmR 7 6 [2]).map (2 :: ·) ++ ((pmR 7 6 [3]).map (3 :: ·) ++ ((pmR 7 6 [4]).map (4 :: ·) ++ ((pmR 7 6 [5]).map (5 :: ·) ++ (pmR 7 6 [6]).map (6 :: ·))))))) = true := nchk_app ck7_0 nc7_1 (fun a b ha hb => by rw [la7_0] at ha; rw [hd7_1] at hb; cases ha; cases hb; decide +kernel)
theorem pm7_eq : pmN 7 = ((pmR 7 6 [0]).map (0 :: ·) ++ ((pmR 7 6 [1]).map (1 :: ·) ++ ((pmR 7 6 [2]).map (2 :: ·) ++ ((pmR 7 6 [3]).map (3 :: ·) ++ ((pmR 7 6 [4]).map (4 :: ·) ++ ((pmR 7 6 [5]).map (5 :: ·) ++ (pmR 7 6 [6]).map (6 :: ·))))))) := by
  have h : pmN 7 = [0, 1, 2, 3, 4, 5, 6].flatMap (fun j => if ([] : List Nat).contains j then [] else (pmR 7 6 (j :: [])).map (j :: ·)) := rfl
  rw [h]
  simp only [List.flatMap_cons, List.flatMap_nil, List.append_nil, List.contains_nil, Bool.false_eq_true, if_false]
theorem nchk_ok : ∀ n, n < 8 → nchk n (pmN n) = true := by
  intro n hn
  by_cases h : n = 7
  · subst h
    rw [pm7_eq]
    exact nc7_0
  · exact nchk6 n (by omega)
