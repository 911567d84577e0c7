/-! ===== the statements of a text, as plain functions ===== -/
set_option maxRecDepth 100000
/-- names, libraries (word, trust, keeps, preferences), offers, share, share told, weight told, codes, the weight -/
abbrev PS : Type := List (List Int) × List (List Int × Int × Int × List Int) × (Int → Int → Int) × Int × Bool × Bool × List Int × EF
abbrev PS.nm (s : PS) : List (List Int) := s.1
abbrev PS.lb (s : PS) : List (List Int × Int × Int × List Int) := s.2.1
abbrev PS.of (s : PS) : Int → Int → Int := s.2.2.1
abbrev PS.sh (s : PS) : Int := s.2.2.2.1
abbrev PS.hs (s : PS) : Bool := s.2.2.2.2.1
abbrev PS.hw (s : PS) : Bool := s.2.2.2.2.2.1
abbrev PS.cs (s : PS) : List Int := s.2.2.2.2.2.2.1
abbrev PS.fn (s : PS) : EF := s.2.2.2.2.2.2.2
abbrev fnT : EF := fun t _ _ _ => t
def PS.mk0 (nm : List (List Int)) (lb : List (List Int × Int × Int × List Int)) (of : Int → Int → Int) (sh : Int) (hs hw : Bool) (cs : List Int) (fn : EF) : PS := (nm, lb, of, sh, hs, hw, cs, fn)
def PS0 : PS := ([], [], fun _ _ => -1, 50, false, false, [], fnT)
def o2 (of : Int → Int → Int) (k n v : Int) : Int → Int → Int := fun a b => if a = k ∧ b = n then v else of a b
def kwLink : List Int := [108, 105, 110, 107]
def kwName : List Int := [110, 97, 109, 101]
def kwLibrary : List Int := [108, 105, 98, 114, 97, 114, 121]
def kwOffer : List Int := [111, 102, 102, 101, 114]
def kwPrefer : List Int := [112, 114, 101, 102, 101, 114]
def kwShare : List Int := [115, 104, 97, 114, 101]
def kwWeight : List Int := [119, 101, 105, 103, 104, 116]
def kwKeeps : List Int := [107, 101, 101, 112, 115]
def kwTo : List Int := [116, 111]
def kwTrust : List Int := [116, 114, 117, 115, 116]
def kwRank : List Int := [114, 97, 110, 107]
def kwOffers : List Int := [111, 102, 102, 101, 114, 115]
def kwFriends : List Int := [102, 114, 105, 101, 110, 100, 115]
/-- the word at p, blanks left out -/
def pw (t : Int → Int) (p : Int) : List Int := wd t (sk t p) (we t (sk t p))
def cmb (op : Int) (x y : List Int × EF) : List Int × EF := (x.1 ++ (y.1 ++ [op]), fun a b c d => opr op (x.2 a b c d) (y.2 a b c d))
/-- 0 factor, 1 term, 2 its loop, 3 sum, 4 its loop -/
def pE : Nat → Nat → (Int → Int) → Int → Int → (List Int × EF) → PE ((List Int × EF) × Int)
  | 0, _, _, _, _, _ => .error (0, 0)
  | f + 1, 0, t, d, p, x =>
    if t (sk t p) = 40 then (if d < 4 then (match pE f 3 t (d + 1) (sk t p + 1) x with
        | .error e => .error e
        | .ok (y, p1) => if t (sk t p1) = 41 then .ok (y, sk t p1 + 1) else .error (-2, sk t p1)) else .error (-7, sk t p))
    else if 48 ≤ t (sk t p) ∧ t (sk t p) ≤ 57 then (match pnum t p 0 9999 with
        | .error e => .error e
        | .ok (v, p1) => .ok (([0, v], fun _ _ _ _ => v), p1))
    else if pw t p = kwTrust then .ok (([1, 0], fun a _ _ _ => a), we t (sk t p))
    else if pw t p = kwRank then .ok (([1, 1], fun _ a _ _ => a), we t (sk t p))
    else if pw t p = kwOffers then .ok (([1, 2], fun _ _ a _ => a), we t (sk t p))
    else if pw t p = kwFriends then .ok (([1, 3], fun _ _ _ a => a), we t (sk t p))
    else .error (-2, sk t p)
  | f + 1, 1, t, d, p, x => match pE f 0 t d p x with
    | .error e => .error e
    | .ok (y, p1) => pE f 2 t d p1 y
  | f + 1, 2, t, d, p, x => if t (sk t p) = 42 ∨ t (sk t p) = 47 then (match pE f 0 t d (sk t p + 1) x with
      | .error e => .error e
      | .ok (y, p1) => pE f 2 t d p1 (cmb (if t (sk t p) = 42 then 4 else 5) x y)) else .ok (x, sk t p)
  | f + 1, 3, t, d, p, x => match pE f 1 t d p x with
    | .error e => .error e
    | .ok (y, p1) => pE f 4 t d p1 y
  | f + 1, _, t, d, p, x => if t (sk t p) = 43 ∨ t (sk t p) = 45 then (match pE f 1 t d (sk t p + 1) x with
      | .error e => .error e
      | .ok (y, p1) => pE f 4 t d p1 (cmb (if t (sk t p) = 43 then 2 else 3) x y)) else .ok (x, sk t p)
def pName (t : Int → Int) (q e : Int) (s : PS) : PE (Int × PS) := if s.nm.length < 12 then (match ptw t e with
    | .error x => .error x
    | .ok (w, b, e2) => if fi s.nm w = -1 then .ok (e2, PS.mk0 (s.nm ++ [w]) s.lb s.of s.sh s.hs s.hw s.cs s.fn) else .error (-5, b)) else .error (-6, q)
def pLib (t : Int → Int) (q e : Int) (s : PS) : PE (Int × PS) := if s.lb.length < 8 then (match ptw t e with
    | .error x => .error x
    | .ok (w, b, e2) => if fi (s.lb.map (·.1)) w = -1 then (match pnum t e2 0 999 with
      | .error x => .error x
      | .ok (v, e3) => .ok (if pw t e3 = kwKeeps then we t (sk t e3) else sk t e3, PS.mk0 s.nm (s.lb ++ [(w, v, if pw t e3 = kwKeeps then 1 else 0, [])]) s.of s.sh s.hs s.hw s.cs s.fn)) else .error (-5, b)) else .error (-6, q)
def pOff (t : Int → Int) (e : Int) (s : PS) : PE (Int × PS) := match pkn t e (s.lb.map (·.1)) with
  | .error x => .error x
  | .ok (k, _, e2) => match pkn t e2 s.nm with
    | .error x => .error x
    | .ok (n, b, e3) => if s.of k n ≠ -1 then .error (-5, b) else
      if 48 ≤ t (sk t e3) ∧ t (sk t e3) ≤ 57 then (match pnum t e3 0 9999 with
        | .error x => .error x
        | .ok (v, e4) => .ok (e4, PS.mk0 s.nm s.lb (o2 s.of k n v) s.sh s.hs s.hw s.cs s.fn))
      else if pw t e3 = kwTo then (match pkn t (we t (sk t e3)) s.nm with
        | .error x => .error x
        | .ok (v, _, e5) => .ok (e5, PS.mk0 s.nm s.lb (o2 s.of k n (-2 - v)) s.sh s.hs s.hw s.cs s.fn))
      else .error (-2, sk t e3)
def adp (l : List (List Int × Int × Int × List Int)) (k o : Int) : List (List Int × Int × Int × List Int) := l.modify k.toNat (fun x => (x.1, x.2.1, x.2.2.1, x.2.2.2 ++ [o]))
def prf (l : List (List Int × Int × Int × List Int)) (k : Int) : List Int := (l.getD k.toNat ([], 0, 0, [])).2.2.2
def pPre (t : Int → Int) (e : Int) (s : PS) : PE (Int × PS) := match pkn t e (s.lb.map (·.1)) with
  | .error x => .error x
  | .ok (k, _, e2) => match pkn t e2 (s.lb.map (·.1)) with
    | .error x => .error x
    | .ok (o, b, e3) => if o ≠ k ∧ o ∉ prf s.lb k then .ok (e3, PS.mk0 s.nm (adp s.lb k o) s.of s.sh s.hs s.hw s.cs s.fn) else .error (-5, b)
def pSha (t : Int → Int) (q e : Int) (s : PS) : PE (Int × PS) := if s.hs = true then .error (-2, q) else match pnum t e 0 100 with
  | .error x => .error x
  | .ok (v, e2) => .ok (e2, PS.mk0 s.nm s.lb s.of v true s.hw s.cs s.fn)
def pWei (t : Int → Int) (q e : Int) (s : PS) : PE (Int × PS) := if s.hw = true then .error (-2, q) else match pE 2500 3 t 0 e ([], fnT) with
  | .error x => .error x
  | .ok (y, e2) => .ok (e2, PS.mk0 s.nm s.lb s.of s.sh s.hs true y.1 y.2)
def pexp (t : Int → Int) (p c : Int) : PE Int := if t (sk t p) = c then .ok (sk t p + 1) else .error (-2, sk t p)
def pSt1 (t : Int → Int) (p : Int) (s : PS) : PE (Int × PS) :=
  if pw t p = kwName then pName t (sk t p) (we t (sk t p)) s else if pw t p = kwLibrary then pLib t (sk t p) (we t (sk t p)) s else if pw t p = kwOffer then pOff t (we t (sk t p)) s
  else if pw t p = kwPrefer then pPre t (we t (sk t p)) s else if pw t p = kwShare then pSha t (sk t p) (we t (sk t p)) s else if pw t p = kwWeight then pWei t (sk t p) (we t (sk t p)) s else .error (-2, sk t p)
def pSt (t : Int → Int) (p : Int) (s : PS) : PE (Int × PS) := match pSt1 t p s with
  | .error x => .error x
  | .ok (p1, s1) => match pexp t p1 59 with
    | .error x => .error x
    | .ok p2 => .ok (p2, s1)
def pLp : Nat → (Int → Int) → Int → PS → PE PS
  | 0, _, _, _ => .error (0, 0)
  | f + 1, t, p, s => if t (sk t p) = -1 then .ok s else match pSt t p s with
    | .error x => .error x
    | .ok (p1, s1) => pLp f t p1 s1
def pAll (t : Int → Int) : PE PS := if pw t 0 = kwLink then (match pexp t (we t (sk t 0)) 59 with
    | .error x => .error x
    | .ok p => pLp 900 t p PS0) else .error (-2, sk t 0)
