/-! the sixteen formulas of the law, as they are read -/
def fTk (k : Nat) : List Tk := match k with
  | 70 => [(1, cW 62), (3, [43]), (1, cW 60), (3, [42]), (2, [50]), (3, [45]), (1, cW 63)]
  | 71 => [(1, cW 60), (3, [42]), (1, cW 64), (3, [43]), (1, cW 62), (3, [47]), (2, [50])]
  | 72 => [(1, cW 7), (3, [40]), (1, cW 60), (3, [62]), (2, [49, 48]), (3, [44]), (1, cW 62), (3, [45]), (1, cW 60), (3, [44]), (1, cW 60), (3, [42]), (2, [53]), (3, [41]), (3, [43]), (1, cW 61)]
  | 73 => [(3, [40]), (1, cW 62), (3, [42]), (2, [51]), (3, [43]), (1, cW 60), (3, [42]), (2, [55]), (3, [41]), (3, [37]), (2, [49, 48, 48])]
  | 74 => [(1, cW 65), (3, [62]), (2, [55, 48])]
  | 75 => [(1, cW 60), (3, [62]), (2, [49, 50]), (1, cW 10), (1, cW 63), (3, [60]), (2, [52])]
  | 76 => [(1, cW 65), (3, [37]), (2, [55]), (3, [61]), (2, [48])]
  | 77 => [(1, cW 64), (3, [61]), (2, [48]), (1, cW 10), (1, cW 60), (3, [42]), (2, [50]), (3, [62]), (1, cW 62)]
  | 78 => [(1, cW 66), (3, [60]), (2, [53])]
  | 79 => [(1, cW 66), (3, [60]), (1, cW 60), (1, cW 10), (1, cW 67), (3, [62]), (2, [54])]
  | 80 => [(1, cW 66), (3, [37]), (2, [51]), (3, [61]), (2, [49])]
  | 81 => [(1, cW 67), (3, [60]), (2, [56]), (1, cW 11), (1, cW 66), (3, [61]), (2, [48])]
  | 82 => [(1, cW 60), (3, [42]), (1, cW 68)]
  | 83 => [(1, cW 60), (3, [43]), (1, cW 69), (3, [42]), (2, [51]), (3, [43]), (1, cW 61), (3, [37]), (2, [50])]
  | 84 => [(1, cW 68), (3, [42]), (2, [50]), (3, [45]), (1, cW 60)]
  | 85 => [(1, cW 7), (3, [40]), (1, cW 60), (3, [62]), (2, [57]), (3, [44]), (2, [52, 48]), (3, [44]), (2, [53]), (3, [41])]
  | _ => []
def fVl (k : Nat) : aEnv → Int64 := match k with
  | 70 => fun e => aJ (nI 45) (aJ (nI 43) (e 2) (aJ (nI 42) (e 0) ((nI (sN [50])).toInt64))) (e 3)
  | 71 => fun e => aJ (nI 43) (aJ (nI 42) (e 0) (e 4)) (aJ (nI 47) (e 2) ((nI (sN [50])).toInt64))
  | 72 => fun e => aJ (nI 43) ((if aCmp (nI 62) (e 0) ((nI (sN [49, 48])).toInt64) = 0 then aJ (nI 42) (e 0) ((nI (sN [53])).toInt64) else aJ (nI 45) (e 2) (e 0) : Int64)) (e 1)
  | 73 => fun e => aJ (nI 37) (aJ (nI 43) (aJ (nI 42) (e 2) ((nI (sN [51])).toInt64)) (aJ (nI 42) (e 0) ((nI (sN [55])).toInt64))) ((nI (sN [49, 48, 48])).toInt64)
  | 74 => fun e => aCmp (nI 62) (e 5) ((nI (sN [55, 48])).toInt64)
  | 75 => fun e => if (aCmp (nI 62) (e 0) ((nI (sN [49, 50])).toInt64)) = 1 then (if (aCmp (nI 60) (e 3) ((nI (sN [52])).toInt64)) = 1 then 1 else (if (1 : Int64) = 0 then 1 else 0)) else (if (1 : Int64) = 0 then 1 else 0)
  | 76 => fun e => aCmp (nI 61) (aJ (nI 37) (e 5) ((nI (sN [55])).toInt64)) ((nI (sN [48])).toInt64)
  | 77 => fun e => if (aCmp (nI 61) (e 4) ((nI (sN [48])).toInt64)) = 1 then (if (aCmp (nI 62) (aJ (nI 42) (e 0) ((nI (sN [50])).toInt64)) (e 2)) = 1 then 1 else (if (1 : Int64) = 0 then 1 else 0)) else (if (1 : Int64) = 0 then 1 else 0)
  | 78 => fun e => aCmp (nI 60) (e 6) ((nI (sN [53])).toInt64)
  | 79 => fun e => if (aCmp (nI 60) (e 6) (e 0)) = 1 then (if (aCmp (nI 62) (e 7) ((nI (sN [54])).toInt64)) = 1 then 1 else (if (1 : Int64) = 0 then 1 else 0)) else (if (1 : Int64) = 0 then 1 else 0)
  | 80 => fun e => aCmp (nI 61) (aJ (nI 37) (e 6) ((nI (sN [51])).toInt64)) ((nI (sN [49])).toInt64)
  | 81 => fun e => if (aCmp (nI 60) (e 7) ((nI (sN [56])).toInt64)) = 0 then (if (aCmp (nI 61) (e 6) ((nI (sN [48])).toInt64)) = 0 then 0 else (if (0 : Int64) = 0 then 1 else 0)) else (if (0 : Int64) = 0 then 1 else 0)
  | 82 => fun e => aJ (nI 42) (e 0) (e 8)
  | 83 => fun e => aJ (nI 43) (aJ (nI 43) (e 0) (aJ (nI 42) (e 9) ((nI (sN [51])).toInt64))) (aJ (nI 37) (e 1) ((nI (sN [50])).toInt64))
  | 84 => fun e => aJ (nI 45) (aJ (nI 42) (e 8) ((nI (sN [50])).toInt64)) (e 0)
  | 85 => fun e => if aCmp (nI 62) (e 0) ((nI (sN [57])).toInt64) = 0 then (nI (sN [53])).toInt64 else (nI (sN [52, 48])).toInt64
  | _ => fun _ => 0
theorem pt_n {fr to : Nat} {S T : pP} (w : List Nat) (ts : List Tk) : pPart fr to S T ((2, w) :: ts) = some (fun _ => (nI (sN w)).toInt64, 1, ts) := rfl
theorem pt_w {fr to : Nat} {S T : pP} {w : List Nat} {k : Nat} (ts : List Tk) (h : askIx fr to w 0 10 = some k) : pPart fr to S T ((1, w) :: ts) = some (fun e => e k, 1, ts) := by
  show (match askIx fr to w 0 10 with | some k => some ((fun e => e k : aEnv → Int64), 1, ts) | none => _) = _
  rw [h]
theorem pt_p {fr to : Nat} {S T : pP} {ts t3 : List Tk} {f : aEnv → Int64} {d : Nat} (h : S ts = some (f, d, (3, [41]) :: t3)) : pPart fr to S T ((3, [40]) :: ts) = some (f, d, t3) := by
  show ((S ts).bind fun r => (pTake 41 r.2.2).bind fun t3 => some (r.1, r.2.1, t3)) = _
  rw [h]
  rfl
theorem pt_if {fr to : Nat} {S T : pP} {t1 t3 t5 t7 : List Tk} {f0 f1 f2 : aEnv → Int64} {d0 d1 d2 : Nat} (hq : askIx fr to (cW 7) 0 10 = none) (h0 : T t1 = some (f0, d0, (3, [44]) :: t3)) (h1 : S t3 = some (f1, d1, (3, [44]) :: t5)) (h2 : S t5 = some (f2, d2, (3, [41]) :: t7)) : pPart fr to S T ((1, cW 7) :: (3, [40]) :: t1) = some (fun e => if f0 e = 0 then f2 e else f1 e, max d0 (max d1 d2) + 1, t7) := by
  show (match askIx fr to (cW 7) 0 10 with | some k => some ((fun e => e k : aEnv → Int64), 1, (3, [40]) :: t1) | none => if hdW ((1, cW 7) :: (3, [40]) :: t1) (cW 7) then pChosen S T ((3, [40]) :: t1) else none) = _
  rw [hq]
  show pChosen S T ((3, [40]) :: t1) = _
  show ((T t1).bind fun r0 => (pTake 44 r0.2.2).bind fun t3 => (S t3).bind fun r1 => (pTake 44 r1.2.2).bind fun t5 => (S t5).bind fun r2 => (pTake 41 r2.2.2).bind fun t7 => some ((fun e => if r0.1 e = 0 then r2.1 e else r1.1 e : aEnv → Int64), max r0.2.1 (max r1.2.1 r2.2.1) + 1, t7)) = _
  rw [h0]
  show ((S t3).bind fun r1 => (pTake 44 r1.2.2).bind fun t5 => (S t5).bind fun r2 => (pTake 41 r2.2.2).bind fun t7 => some ((fun e => if f0 e = 0 then r2.1 e else r1.1 e : aEnv → Int64), max d0 (max r1.2.1 r2.2.1) + 1, t7)) = _
  rw [h1]
  show ((S t5).bind fun r2 => (pTake 41 r2.2.2).bind fun t7 => some ((fun e => if f0 e = 0 then r2.1 e else f1 e : aEnv → Int64), max d0 (max d1 r2.2.1) + 1, t7)) = _
  rw [h2]
  rfl
theorem ch_0 {isS : List Tk → Bool} {P : pP} {c : Nat} {tk t : List Tk} {f : aEnv → Int64} {d : Nat} (h : P tk = some (f, d, t)) (h1 : isS t = false) : pCh isS P c tk = some (f, d, t) := by
  unfold pCh
  rw [h]
  show (if isS t then _ else _) = _
  rw [h1]
  rfl
theorem ch_1 {isS : List Tk → Bool} {P : pP} {c : Nat} {tk t : List Tk} {f : aEnv → Int64} {d : Nat} {x : Option pR} (h : P tk = some (f, d, t)) (h1 : isS t = true) (h2 : pMore isS P 9 [c] [f] d t = x) : pCh isS P c tk = x := by
  unfold pCh
  rw [h]
  show (if isS t then pMore isS P 9 [c] [f] d t else _) = _
  rw [h1]
  exact h2
theorem mo_0 {isS : List Tk → Bool} {P : pP} {n : Nat} {sgs : List Nat} {fs : List (aEnv → Int64)} {d : Nat} {tk : List Tk} (h : isS tk = false) : pMore isS P (n + 1) sgs fs d tk = some (pChain sgs fs, d + 1, tk) := by
  show (if isS tk then _ else _) = _
  rw [h]
  rfl
theorem mo_1 {isS : List Tk → Bool} {P : pP} {n : Nat} {sgs : List Nat} {fs : List (aEnv → Int64)} {d c : Nat} {tk t : List Tk} {f : aEnv → Int64} {d1 : Nat} {x : Option pR} (h : isS ((3, [c]) :: tk) = true) (h1 : P tk = some (f, d1, t)) (h2 : pMore isS P n (sgs ++ [c]) (fs ++ [f]) (max d d1) t = x) : pMore isS P (n + 1) sgs fs d ((3, [c]) :: tk) = x := by
  show (if isS ((3, [c]) :: tk) then (P tk).bind fun r => pMore isS P n (sgs ++ [c]) (fs ++ [r.1]) (max d r.2.1) r.2.2 else _) = _
  rw [h, h1]
  exact h2
theorem ag_1 {S : pP} {tk t t2 : List Tk} {f f2 : aEnv → Int64} {d d2 c : Nat} (h : S tk = some (f, d, (3, [c]) :: t)) (h1 : isA ((3, [c]) :: t) = true) (h2 : S t = some (f2, d2, t2)) : pAg S tk = some (fun e => aCmp (nI c) (f e) (f2 e), max d d2 + 1, t2) := by
  unfold pAg
  rw [h]
  show (if isA ((3, [c]) :: t) then (S t).bind fun r2 => some ((fun e => aCmp (nI c) (f e) (r2.1 e) : aEnv → Int64), max d r2.2.1 + 1, r2.2.2) else none) = _
  rw [h1, h2]
  rfl
theorem fa_1 {S : pP} {tk : List Tk} {x : Option pR} (h : (hdW tk (cW 8) || (hdS tk 91 || hdW tk (cW 9))) = false) (h1 : pAg S tk = x) : pFact S tk = x := by
  unfold pFact
  rw [h]
  exact h1
theorem sv_0 {w : List Nat} {all : Int64} {P : pP} {tk t : List Tk} {f : aEnv → Int64} {d : Nat} (h : P tk = some (f, d, t)) (h1 : hdW t w = false) : pSev w all P tk = some (f, d, t) := by
  unfold pSev
  rw [h]
  show (if hdW t w then _ else _) = _
  rw [h1]
  rfl
theorem sv_1 {w : List Nat} {all : Int64} {P : pP} {tk t : List Tk} {f : aEnv → Int64} {d : Nat} {x : Option pR} (h : P tk = some (f, d, t)) (h1 : hdW t w = true) (h2 : pMoreW w all P 9 [f] d t = x) : pSev w all P tk = x := by
  unfold pSev
  rw [h]
  show (if hdW t w then pMoreW w all P 9 [f] d t else _) = _
  rw [h1]
  exact h2
theorem mw_0 {w : List Nat} {all : Int64} {P : pP} {n : Nat} {fs : List (aEnv → Int64)} {d : Nat} {tk : List Tk} (h : hdW tk w = false) : pMoreW w all P (n + 1) fs d tk = some (pTests all fs, d + 1, tk) := by
  show (if hdW tk w then _ else _) = _
  rw [h]
  rfl
theorem mw_1 {w : List Nat} {all : Int64} {P : pP} {n : Nat} {fs : List (aEnv → Int64)} {d : Nat} {a : Tk} {tk t : List Tk} {f : aEnv → Int64} {d1 : Nat} {x : Option pR} (h : hdW (a :: tk) w = true) (h1 : P tk = some (f, d1, t)) (h2 : pMoreW w all P n (fs ++ [f]) (max d d1) t = x) : pMoreW w all P (n + 1) fs d (a :: tk) = x := by
  show (if hdW (a :: tk) w then (P tk).bind fun r => pMoreW w all P n (fs ++ [r.1]) (max d r.2.1) r.2.2 else _) = _
  rw [h, h1]
  exact h2
theorem ch_2 {isS : List Tk → Bool} {P : pP} {c c1 : Nat} {tk t t1 : List Tk} {f f1 : aEnv → Int64} {d d1 : Nat} (h : P tk = some (f, d, (3, [c1]) :: t)) (h1 : isS ((3, [c1]) :: t) = true) (h2 : P t = some (f1, d1, t1)) (h3 : isS t1 = false) : pCh isS P c tk = some (fun e => aJ (nI c1) (f e) (f1 e), max d d1 + 1, t1) := ch_1 h h1 (mo_1 h1 h2 (mo_0 h3))
theorem ch_3 {isS : List Tk → Bool} {P : pP} {c c1 c2 : Nat} {tk t t1 t2 : List Tk} {f f1 f2 : aEnv → Int64} {d d1 d2 : Nat} (h : P tk = some (f, d, (3, [c1]) :: t)) (h1 : isS ((3, [c1]) :: t) = true) (h2 : P t = some (f1, d1, (3, [c2]) :: t1)) (h3 : isS ((3, [c2]) :: t1) = true) (h4 : P t1 = some (f2, d2, t2)) (h5 : isS t2 = false) : pCh isS P c tk = some (fun e => aJ (nI c2) (aJ (nI c1) (f e) (f1 e)) (f2 e), max (max d d1) d2 + 1, t2) := ch_1 h h1 (mo_1 h1 h2 (mo_1 h3 h4 (mo_0 h5)))
theorem sv_2 {w : List Nat} {all : Int64} {P : pP} {a : Tk} {tk t t1 : List Tk} {f f1 : aEnv → Int64} {d d1 : Nat} (h : P tk = some (f, d, a :: t)) (h1 : hdW (a :: t) w = true) (h2 : P t = some (f1, d1, t1)) (h3 : hdW t1 w = false) : pSev w all P tk = some (fun e => if f e = all then (if f1 e = all then all else (if all = 0 then 1 else 0)) else (if all = 0 then 1 else 0), max d d1 + 1, t1) := sv_1 h h1 (mw_1 h1 h2 (mw_0 h3))

set_option maxRecDepth 100000 in
set_option maxHeartbeats 1000000 in
theorem fP_70 (ts : List Tk) : ∃ h, (pLv 2 4 1).1 (fTk 70 ++ (3, [59]) :: ts) = some (fVl 70, h, (3, [59]) :: ts) ∧ h ≤ 6 := by
  have h1 := (show (pSum 2 4 (pSum 2 4 pNo pNo) (pTest (pSum 2 4 pNo pNo))) ((1, cW 62) :: (3, [43]) :: (1, cW 60) :: (3, [42]) :: (2, [50]) :: (3, [45]) :: (1, cW 63) :: (3, [59]) :: ts) = _ from (ch_3 (ch_0 (pt_w _ (by rfl)) (by rfl)) (by rfl) (ch_2 (pt_w _ (by rfl)) (by rfl) (pt_n _ _) (by rfl)) (by rfl) (ch_0 (pt_w _ (by rfl)) (by rfl)) (by rfl)))
  exact ⟨_, h1, by decide⟩
set_option maxRecDepth 100000 in
set_option maxHeartbeats 1000000 in
theorem fP_71 (ts : List Tk) : ∃ h, (pLv 2 4 1).1 (fTk 71 ++ (3, [59]) :: ts) = some (fVl 71, h, (3, [59]) :: ts) ∧ h ≤ 6 := by
  have h1 := (show (pSum 2 4 (pSum 2 4 pNo pNo) (pTest (pSum 2 4 pNo pNo))) ((1, cW 60) :: (3, [42]) :: (1, cW 64) :: (3, [43]) :: (1, cW 62) :: (3, [47]) :: (2, [50]) :: (3, [59]) :: ts) = _ from (ch_2 (ch_2 (pt_w _ (by rfl)) (by rfl) (pt_w _ (by rfl)) (by rfl)) (by rfl) (ch_2 (pt_w _ (by rfl)) (by rfl) (pt_n _ _) (by rfl)) (by rfl)))
  exact ⟨_, h1, by decide⟩
set_option maxRecDepth 100000 in
set_option maxHeartbeats 1000000 in
theorem fP_72 (ts : List Tk) : ∃ h, (pLv 2 4 1).1 (fTk 72 ++ (3, [59]) :: ts) = some (fVl 72, h, (3, [59]) :: ts) ∧ h ≤ 6 := by
  have h1 := (show (pSum 2 4 (pSum 2 4 pNo pNo) (pTest (pSum 2 4 pNo pNo))) ((1, cW 7) :: (3, [40]) :: (1, cW 60) :: (3, [62]) :: (2, [49, 48]) :: (3, [44]) :: (1, cW 62) :: (3, [45]) :: (1, cW 60) :: (3, [44]) :: (1, cW 60) :: (3, [42]) :: (2, [53]) :: (3, [41]) :: (3, [43]) :: (1, cW 61) :: (3, [59]) :: ts) = _ from (ch_2 (ch_0 (pt_if (by rfl) (sv_0 (sv_0 (fa_1 (by rfl) (ag_1 (ch_0 (ch_0 (pt_w _ (by rfl)) (by rfl)) (by rfl)) (by rfl) (ch_0 (ch_0 (pt_n _ _) (by rfl)) (by rfl)))) (by rfl)) (by rfl)) (ch_2 (ch_0 (pt_w _ (by rfl)) (by rfl)) (by rfl) (ch_0 (pt_w _ (by rfl)) (by rfl)) (by rfl)) (ch_0 (ch_2 (pt_w _ (by rfl)) (by rfl) (pt_n _ _) (by rfl)) (by rfl))) (by rfl)) (by rfl) (ch_0 (pt_w _ (by rfl)) (by rfl)) (by rfl)))
  exact ⟨_, h1, by decide⟩
set_option maxRecDepth 100000 in
set_option maxHeartbeats 1000000 in
theorem fP_73 (ts : List Tk) : ∃ h, (pLv 2 4 1).1 (fTk 73 ++ (3, [59]) :: ts) = some (fVl 73, h, (3, [59]) :: ts) ∧ h ≤ 6 := by
  have h1 := (show (pSum 2 4 (pSum 2 4 pNo pNo) (pTest (pSum 2 4 pNo pNo))) ((3, [40]) :: (1, cW 62) :: (3, [42]) :: (2, [51]) :: (3, [43]) :: (1, cW 60) :: (3, [42]) :: (2, [55]) :: (3, [41]) :: (3, [37]) :: (2, [49, 48, 48]) :: (3, [59]) :: ts) = _ from (ch_0 (ch_2 (pt_p (ch_2 (ch_2 (pt_w _ (by rfl)) (by rfl) (pt_n _ _) (by rfl)) (by rfl) (ch_2 (pt_w _ (by rfl)) (by rfl) (pt_n _ _) (by rfl)) (by rfl))) (by rfl) (pt_n _ _) (by rfl)) (by rfl)))
  exact ⟨_, h1, by decide⟩
set_option maxRecDepth 100000 in
set_option maxHeartbeats 1000000 in
theorem fP_74 (ts : List Tk) : ∃ h, (pLv 2 5 1).2 (fTk 74 ++ (3, [59]) :: ts) = some (fVl 74, h, (3, [59]) :: ts) ∧ h ≤ 6 := by
  have h1 := (show (pTest (pSum 2 5 (pSum 2 5 pNo pNo) (pTest (pSum 2 5 pNo pNo)))) ((1, cW 65) :: (3, [62]) :: (2, [55, 48]) :: (3, [59]) :: ts) = _ from (sv_0 (sv_0 (fa_1 (by rfl) (ag_1 (ch_0 (ch_0 (pt_w _ (by rfl)) (by rfl)) (by rfl)) (by rfl) (ch_0 (ch_0 (pt_n _ _) (by rfl)) (by rfl)))) (by rfl)) (by rfl)))
  exact ⟨_, h1, by decide⟩
set_option maxRecDepth 100000 in
set_option maxHeartbeats 1000000 in
theorem fP_75 (ts : List Tk) : ∃ h, (pLv 2 5 1).2 (fTk 75 ++ (3, [59]) :: ts) = some (fVl 75, h, (3, [59]) :: ts) ∧ h ≤ 6 := by
  have h1 := (show (pTest (pSum 2 5 (pSum 2 5 pNo pNo) (pTest (pSum 2 5 pNo pNo)))) ((1, cW 60) :: (3, [62]) :: (2, [49, 50]) :: (1, cW 10) :: (1, cW 63) :: (3, [60]) :: (2, [52]) :: (3, [59]) :: ts) = _ from (sv_0 (sv_2 (fa_1 (by rfl) (ag_1 (ch_0 (ch_0 (pt_w _ (by rfl)) (by rfl)) (by rfl)) (by rfl) (ch_0 (ch_0 (pt_n _ _) (by rfl)) (by rfl)))) (by rfl) (fa_1 (by rfl) (ag_1 (ch_0 (ch_0 (pt_w _ (by rfl)) (by rfl)) (by rfl)) (by rfl) (ch_0 (ch_0 (pt_n _ _) (by rfl)) (by rfl)))) (by rfl)) (by rfl)))
  exact ⟨_, h1, by decide⟩
set_option maxRecDepth 100000 in
set_option maxHeartbeats 1000000 in
theorem fP_76 (ts : List Tk) : ∃ h, (pLv 2 5 1).2 (fTk 76 ++ (3, [59]) :: ts) = some (fVl 76, h, (3, [59]) :: ts) ∧ h ≤ 6 := by
  have h1 := (show (pTest (pSum 2 5 (pSum 2 5 pNo pNo) (pTest (pSum 2 5 pNo pNo)))) ((1, cW 65) :: (3, [37]) :: (2, [55]) :: (3, [61]) :: (2, [48]) :: (3, [59]) :: ts) = _ from (sv_0 (sv_0 (fa_1 (by rfl) (ag_1 (ch_0 (ch_2 (pt_w _ (by rfl)) (by rfl) (pt_n _ _) (by rfl)) (by rfl)) (by rfl) (ch_0 (ch_0 (pt_n _ _) (by rfl)) (by rfl)))) (by rfl)) (by rfl)))
  exact ⟨_, h1, by decide⟩
set_option maxRecDepth 100000 in
set_option maxHeartbeats 1000000 in
theorem fP_77 (ts : List Tk) : ∃ h, (pLv 2 5 1).2 (fTk 77 ++ (3, [59]) :: ts) = some (fVl 77, h, (3, [59]) :: ts) ∧ h ≤ 6 := by
  have h1 := (show (pTest (pSum 2 5 (pSum 2 5 pNo pNo) (pTest (pSum 2 5 pNo pNo)))) ((1, cW 64) :: (3, [61]) :: (2, [48]) :: (1, cW 10) :: (1, cW 60) :: (3, [42]) :: (2, [50]) :: (3, [62]) :: (1, cW 62) :: (3, [59]) :: ts) = _ from (sv_0 (sv_2 (fa_1 (by rfl) (ag_1 (ch_0 (ch_0 (pt_w _ (by rfl)) (by rfl)) (by rfl)) (by rfl) (ch_0 (ch_0 (pt_n _ _) (by rfl)) (by rfl)))) (by rfl) (fa_1 (by rfl) (ag_1 (ch_0 (ch_2 (pt_w _ (by rfl)) (by rfl) (pt_n _ _) (by rfl)) (by rfl)) (by rfl) (ch_0 (ch_0 (pt_w _ (by rfl)) (by rfl)) (by rfl)))) (by rfl)) (by rfl)))
  exact ⟨_, h1, by decide⟩
set_option maxRecDepth 100000 in
set_option maxHeartbeats 1000000 in
theorem fP_78 (ts : List Tk) : ∃ h, (pLv 6 7 1).2 (fTk 78 ++ (3, [59]) :: ts) = some (fVl 78, h, (3, [59]) :: ts) ∧ h ≤ 6 := by
  have h1 := (show (pTest (pSum 6 7 (pSum 6 7 pNo pNo) (pTest (pSum 6 7 pNo pNo)))) ((1, cW 66) :: (3, [60]) :: (2, [53]) :: (3, [59]) :: ts) = _ from (sv_0 (sv_0 (fa_1 (by rfl) (ag_1 (ch_0 (ch_0 (pt_w _ (by rfl)) (by rfl)) (by rfl)) (by rfl) (ch_0 (ch_0 (pt_n _ _) (by rfl)) (by rfl)))) (by rfl)) (by rfl)))
  exact ⟨_, h1, by decide⟩
set_option maxRecDepth 100000 in
set_option maxHeartbeats 1000000 in
theorem fP_79 (ts : List Tk) : ∃ h, (pLv 6 7 1).2 (fTk 79 ++ (3, [59]) :: ts) = some (fVl 79, h, (3, [59]) :: ts) ∧ h ≤ 6 := by
  have h1 := (show (pTest (pSum 6 7 (pSum 6 7 pNo pNo) (pTest (pSum 6 7 pNo pNo)))) ((1, cW 66) :: (3, [60]) :: (1, cW 60) :: (1, cW 10) :: (1, cW 67) :: (3, [62]) :: (2, [54]) :: (3, [59]) :: ts) = _ from (sv_0 (sv_2 (fa_1 (by rfl) (ag_1 (ch_0 (ch_0 (pt_w _ (by rfl)) (by rfl)) (by rfl)) (by rfl) (ch_0 (ch_0 (pt_w _ (by rfl)) (by rfl)) (by rfl)))) (by rfl) (fa_1 (by rfl) (ag_1 (ch_0 (ch_0 (pt_w _ (by rfl)) (by rfl)) (by rfl)) (by rfl) (ch_0 (ch_0 (pt_n _ _) (by rfl)) (by rfl)))) (by rfl)) (by rfl)))
  exact ⟨_, h1, by decide⟩
set_option maxRecDepth 100000 in
set_option maxHeartbeats 1000000 in
theorem fP_80 (ts : List Tk) : ∃ h, (pLv 6 7 1).2 (fTk 80 ++ (3, [59]) :: ts) = some (fVl 80, h, (3, [59]) :: ts) ∧ h ≤ 6 := by
  have h1 := (show (pTest (pSum 6 7 (pSum 6 7 pNo pNo) (pTest (pSum 6 7 pNo pNo)))) ((1, cW 66) :: (3, [37]) :: (2, [51]) :: (3, [61]) :: (2, [49]) :: (3, [59]) :: ts) = _ from (sv_0 (sv_0 (fa_1 (by rfl) (ag_1 (ch_0 (ch_2 (pt_w _ (by rfl)) (by rfl) (pt_n _ _) (by rfl)) (by rfl)) (by rfl) (ch_0 (ch_0 (pt_n _ _) (by rfl)) (by rfl)))) (by rfl)) (by rfl)))
  exact ⟨_, h1, by decide⟩
set_option maxRecDepth 100000 in
set_option maxHeartbeats 1000000 in
theorem fP_81 (ts : List Tk) : ∃ h, (pLv 6 7 1).2 (fTk 81 ++ (3, [59]) :: ts) = some (fVl 81, h, (3, [59]) :: ts) ∧ h ≤ 6 := by
  have h1 := (show (pTest (pSum 6 7 (pSum 6 7 pNo pNo) (pTest (pSum 6 7 pNo pNo)))) ((1, cW 67) :: (3, [60]) :: (2, [56]) :: (1, cW 11) :: (1, cW 66) :: (3, [61]) :: (2, [48]) :: (3, [59]) :: ts) = _ from (sv_2 (sv_0 (fa_1 (by rfl) (ag_1 (ch_0 (ch_0 (pt_w _ (by rfl)) (by rfl)) (by rfl)) (by rfl) (ch_0 (ch_0 (pt_n _ _) (by rfl)) (by rfl)))) (by rfl)) (by rfl) (sv_0 (fa_1 (by rfl) (ag_1 (ch_0 (ch_0 (pt_w _ (by rfl)) (by rfl)) (by rfl)) (by rfl) (ch_0 (ch_0 (pt_n _ _) (by rfl)) (by rfl)))) (by rfl)) (by rfl)))
  exact ⟨_, h1, by decide⟩
set_option maxRecDepth 100000 in
set_option maxHeartbeats 1000000 in
theorem fP_82 (ts : List Tk) : ∃ h, (pLv 8 9 1).1 (fTk 82 ++ (3, [59]) :: ts) = some (fVl 82, h, (3, [59]) :: ts) ∧ h ≤ 6 := by
  have h1 := (show (pSum 8 9 (pSum 8 9 pNo pNo) (pTest (pSum 8 9 pNo pNo))) ((1, cW 60) :: (3, [42]) :: (1, cW 68) :: (3, [59]) :: ts) = _ from (ch_0 (ch_2 (pt_w _ (by rfl)) (by rfl) (pt_w _ (by rfl)) (by rfl)) (by rfl)))
  exact ⟨_, h1, by decide⟩
set_option maxRecDepth 100000 in
set_option maxHeartbeats 1000000 in
theorem fP_83 (ts : List Tk) : ∃ h, (pLv 8 9 1).1 (fTk 83 ++ (3, [59]) :: ts) = some (fVl 83, h, (3, [59]) :: ts) ∧ h ≤ 6 := by
  have h1 := (show (pSum 8 9 (pSum 8 9 pNo pNo) (pTest (pSum 8 9 pNo pNo))) ((1, cW 60) :: (3, [43]) :: (1, cW 69) :: (3, [42]) :: (2, [51]) :: (3, [43]) :: (1, cW 61) :: (3, [37]) :: (2, [50]) :: (3, [59]) :: ts) = _ from (ch_3 (ch_0 (pt_w _ (by rfl)) (by rfl)) (by rfl) (ch_2 (pt_w _ (by rfl)) (by rfl) (pt_n _ _) (by rfl)) (by rfl) (ch_2 (pt_w _ (by rfl)) (by rfl) (pt_n _ _) (by rfl)) (by rfl)))
  exact ⟨_, h1, by decide⟩
set_option maxRecDepth 100000 in
set_option maxHeartbeats 1000000 in
theorem fP_84 (ts : List Tk) : ∃ h, (pLv 8 9 1).1 (fTk 84 ++ (3, [59]) :: ts) = some (fVl 84, h, (3, [59]) :: ts) ∧ h ≤ 6 := by
  have h1 := (show (pSum 8 9 (pSum 8 9 pNo pNo) (pTest (pSum 8 9 pNo pNo))) ((1, cW 68) :: (3, [42]) :: (2, [50]) :: (3, [45]) :: (1, cW 60) :: (3, [59]) :: ts) = _ from (ch_2 (ch_2 (pt_w _ (by rfl)) (by rfl) (pt_n _ _) (by rfl)) (by rfl) (ch_0 (pt_w _ (by rfl)) (by rfl)) (by rfl)))
  exact ⟨_, h1, by decide⟩
set_option maxRecDepth 100000 in
set_option maxHeartbeats 1000000 in
theorem fP_85 (ts : List Tk) : ∃ h, (pLv 8 9 1).1 (fTk 85 ++ (3, [59]) :: ts) = some (fVl 85, h, (3, [59]) :: ts) ∧ h ≤ 6 := by
  have h1 := (show (pSum 8 9 (pSum 8 9 pNo pNo) (pTest (pSum 8 9 pNo pNo))) ((1, cW 7) :: (3, [40]) :: (1, cW 60) :: (3, [62]) :: (2, [57]) :: (3, [44]) :: (2, [52, 48]) :: (3, [44]) :: (2, [53]) :: (3, [41]) :: (3, [59]) :: ts) = _ from (ch_0 (ch_0 (pt_if (by rfl) (sv_0 (sv_0 (fa_1 (by rfl) (ag_1 (ch_0 (ch_0 (pt_w _ (by rfl)) (by rfl)) (by rfl)) (by rfl) (ch_0 (ch_0 (pt_n _ _) (by rfl)) (by rfl)))) (by rfl)) (by rfl)) (ch_0 (ch_0 (pt_n _ _) (by rfl)) (by rfl)) (ch_0 (ch_0 (pt_n _ _) (by rfl)) (by rfl))) (by rfl)) (by rfl)))
  exact ⟨_, h1, by decide⟩