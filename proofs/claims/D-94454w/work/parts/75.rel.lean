set_option maxRecDepth 100000
/-! ===== what ties the two: the reference's row of numbers, and the class's objects ===== -/
/-- a row of 704 numbers, as the reference keeps all that is told and is so now: 0 columns, 1 rows, 2 doors, 3 draughts, 4 bed, 10.. cells, 110.. doors (10 each: x y across length hanging told costs whole), 210.. doorways, 310.. draughts, 330.. angles, 340 place, 341 acts, 342.. acts (2 each), 462 has a sentence, 463 its top, 464.. nodes (4 each) -/
abbrev Row : Type := Nat → Int32
/-- cells that nobody writes any more -/
abbrev Fz : Type := Nat → Option gA
def rN (r : Row) (i : Nat) : Nat := (r i).toNatClampNeg
/-- the row as it is behind lay() -/
def eRow (ms : MS) : Row := fun i => if ms.1 22 = 0 ∧ (i = 4 ∨ i = 340) then -1 else ms.2.2.1 14 i
def kRow (ms : MS) (k : Nat) : Row := fun i => ms.2.2.1 17 (704 * k + i)
/-! leaves -/
def leafZ (x y : Int) (ac : Bool) (len h a : Nat) : List (Int × Int) :=
  let al : Int := if h % 2 = 0 then 1 else -1
  let ou : Int := if h < 2 then -1 else 1
  let fa : Int := if h % 2 = 0 then 0 else (len : Int) - 1
  let hx : Int := if ac then x else x + fa
  let hy : Int := if ac then y + fa else y
  if a = 1 then
    (List.range len).flatMap fun (i : Nat) => (List.range (if len ≤ 1 then 1 else len - 1)).filterMap fun (j : Nat) =>
      if j + 1 = i ∨ j + 1 = i + 1 then some (if ac then (hx + ou * ((j : Int) + 1), hy + al * (i : Int)) else (hx + al * (i : Int), hy + ou * ((j : Int) + 1))) else none
  else
    (List.range len).map fun (i : Nat) => if a = 0 then (if ac then (hx, hy + al * (i : Int)) else (hx + al * (i : Int), hy)) else (if ac then (hx + ou * ((i : Int) + 1), hy) else (hx, hy + ou * ((i : Int) + 1)))
def inG (p : Int × Int) : Bool := decide (0 ≤ p.1) && decide (p.1 ≤ 9) && decide (0 ≤ p.2) && decide (p.2 ≤ 9)
def cellN (p : Int × Int) : Nat := (10 * p.2 + p.1).toNat
def leafL (r : Row) (d h a : Nat) : List (Int × Int) := leafZ (r (110 + 10 * d)).toInt (r (111 + 10 * d)).toInt (r (112 + 10 * d) == 1) (rN r (113 + 10 * d)) h a
def inH (r : Row) (p : Int × Int) : Bool := decide (0 ≤ p.1) && decide (p.1 < (rN r 0 : Int)) && decide (0 ≤ p.2) && decide (p.2 < (rN r 1 : Int))
def freeL (r : Row) (L : List (Int × Int)) : Bool := L.all fun p => inH r p && (r (10 + cellN p) == 0)
def canB (r : Row) (d h a : Nat) : Bool := a == 0 || freeL r (leafL r d h a)
def leafC (r : Row) (d h a : Nat) : List Nat := ((leafL r d h a).filter inG).map cellN
def sweptC (r : Row) (d h : Nat) : List Nat := (if canB r d h 1 then leafC r d h 1 else []) ++ (if canB r d h 2 then leafC r d h 2 else [])
def bitC (c : Nat) : Int64 := (1 : Int64) <<< (Int64.ofNat c &&& 63)
def bitsLow (L : List Nat) : Int64 := L.foldl (fun v c => if c < 50 then v ||| bitC c else v) 0
def bitsHigh (L : List Nat) : Int64 := L.foldl (fun v c => if c < 50 then v else v ||| bitC (c - 50)) 0
def isFitR (r : Row) (d h : Nat) : Bool := canB r d h 1 && (r (117 + 10 * d) == 0 || canB r d h 2)
def hasB (s : Int32) (k : Nat) : Bool := ((s >>> (nI k &&& 31)) &&& 1) == 1
def oneB (k : Nat) : Int32 := (1 : Int32) <<< (nI k &&& 31)
def domR (r : Row) (d : Nat) : Int32 := (List.range 4).foldl (fun v h => if hasB (r (115 + 10 * d)) h && isFitR r d h then v ||| oneB h else v) 0
def biteR (r : Row) (d h e g : Nat) : Bool := (bitsLow (sweptC r d h) &&& bitsLow (sweptC r e g) != 0) || (bitsHigh (sweptC r d h) &&& bitsHigh (sweptC r e g) != 0)
def biteS (r : Row) (d h e : Nat) : Int32 := if e = d then 0 else (List.range 4).foldl (fun v g => if biteR r d h e g then v ||| oneB g else v) 0
def canS (r : Row) (d h : Nat) : Int32 := 1 + (if canB r d h 1 then 2 else 0) + (if canB r d h 2 then 4 else 0)
/-! the class's frozen objects -/
def insS (c : Nat) : List Nat → List Nat
  | [] => [c]
  | x :: t => if c < x then c :: x :: t else if c = x then x :: t else x :: insS c t
def srt (L : List Nat) : List Nat := L.foldl (fun l c => insS c l) []
def IsCells (F : Fz) (a : Nat) (L : List Nat) (by0 : Bool) : Prop := ∃ (q : Nat) (f : Nat → Int32), F a = some (.inr (10, [.ref q, .int (nI (srt L).length), .long (bitsLow L), .long (bitsHigh L), .int (b2i by0)])) ∧ F q = some (.inl (0, 9, .inl f)) ∧ ∀ i, i < (srt L).length → f i = nI ((srt L).getD i 0)
def wordZ (b : Int64) (l : List Nat) : Int64 := l.foldl (fun v c => b * v + Int64.ofNat c) 0
/-- the class's name and the reference's word are of the same letters -/
def nameEq (a b : Int64) : Prop := ∃ l : List Nat, (∀ c ∈ l, 1 ≤ c ∧ c ≤ 26) ∧ 1 ≤ l.length ∧ l.length ≤ 10 ∧ a = wordZ 32 l ∧ b = wordZ 27 l
def IsDoor (F : Fz) (a : Nat) (r : Row) (nm : Nat → Int64) (d : Nat) : Prop := ∃ (na : Int64) (lv sw cn : Nat) (hg : Int32) (fl fs : Nat → Option Nat) (fc : Nat → Int32),
  F a = some (.inr (9, [.long na, .int (r (110 + 10 * d)), .int (r (111 + 10 * d)), .int (r (113 + 10 * d)), .int (b2i (r (112 + 10 * d) == 1)), .ref lv, .ref sw, .ref cn, .int hg, .int (r (115 + 10 * d)), .int (r (116 + 10 * d)), .int (b2i (r (117 + 10 * d) == 1))])) ∧ nameEq na (nm d) ∧
  F lv = some (.inl (4, 12, .inr (.inr fl))) ∧ F sw = some (.inl (4, 4, .inr (.inr fs))) ∧ F cn = some (.inl (0, 4, .inl fc)) ∧
  (∀ h k, h < 4 → k < 3 → ∃ c, fl (3 * h + k) = some c ∧ IsCells F c (leafC r d h k) ((leafL r d h k).any fun p => !inG p)) ∧
  (∀ h, h < 4 → ∃ c b, fs h = some c ∧ IsCells F c (sweptC r d h) b) ∧ ∀ h, h < 4 → fc h = canS r d h
def IsHouse (F : Fz) (a : Nat) (r : Row) (nm : Nat → Int64) : Prop := ∃ (ce dr ds bt : Nat) (fc fd fb : Nat → Int32) (fo : Nat → Option Nat),
  F a = some (.inr (3, [.ref ce, .ref dr, .ref ds, .ref bt, .int (r 0), .int (r 1), .int (r 2), .int (r 3), .int (r 4)])) ∧
  F ce = some (.inl (0, 100, .inl fc)) ∧ F dr = some (.inl (0, 18, .inl fd)) ∧ F ds = some (.inl (5, 10, .inr (.inr fo))) ∧ F bt = some (.inl (0, 400, .inl fb)) ∧
  (∀ x y, x < rN r 0 → y < rN r 1 → fc (10 * y + x) = if 0 < r (210 + (10 * y + x)) then 9 + r (210 + (10 * y + x)) else r (10 + (10 * y + x))) ∧
  (∀ k, k < 3 * rN r 3 → fd k = r (310 + k)) ∧ (∀ d, d < rN r 2 → ∃ q, fo d = some q ∧ IsDoor F q r nm d) ∧
  ∀ d h e, d < rN r 2 → h < 4 → e < rN r 2 → fb ((4 * d + h) * 10 + e) = biteS r d h e
/-- what is so of every row that has been read -/
def okRow (r : Row) : Prop :=
  (r 0 = nI (rN r 0) ∧ rN r 0 ≤ 10) ∧ (r 1 = nI (rN r 1) ∧ rN r 1 ≤ 10) ∧ (r 2 = nI (rN r 2) ∧ rN r 2 ≤ 10) ∧ (r 3 = nI (rN r 3) ∧ rN r 3 ≤ 6) ∧
  (r 4 = -1 ∨ ∃ x y, x < rN r 0 ∧ y < rN r 1 ∧ r 4 = nI (10 * y + x) ∧ r (10 + (10 * y + x)) = 0) ∧
  (∀ d, d < rN r 2 → (r (110 + 10 * d) = nI (rN r (110 + 10 * d)) ∧ rN r (110 + 10 * d) < rN r 0) ∧ (r (111 + 10 * d) = nI (rN r (111 + 10 * d)) ∧ rN r (111 + 10 * d) < rN r 1) ∧ (r (112 + 10 * d) = 0 ∨ r (112 + 10 * d) = 1) ∧ (r (113 + 10 * d) = nI (rN r (113 + 10 * d)) ∧ 1 ≤ rN r (113 + 10 * d) ∧ rN r (113 + 10 * d) ≤ 3) ∧
    (r (114 + 10 * d) = nI (rN r (114 + 10 * d)) ∧ rN r (114 + 10 * d) < 4) ∧ (r (115 + 10 * d) = nI (rN r (115 + 10 * d)) ∧ rN r (115 + 10 * d) < 16) ∧ (r (116 + 10 * d) = nI (rN r (116 + 10 * d)) ∧ 1 ≤ rN r (116 + 10 * d) ∧ rN r (116 + 10 * d) ≤ 99) ∧ (r (117 + 10 * d) = 0 ∨ r (117 + 10 * d) = 1) ∧
    ∀ p ∈ leafL r d 0 0, inH r p = true ∧ r (10 + cellN p) = 1) ∧
  (∀ x y, x < rN r 0 → y < rN r 1 → (r (10 + (10 * y + x)) = 0 ∨ r (10 + (10 * y + x)) = 1 ∨ r (10 + (10 * y + x)) = 2) ∧ r (210 + (10 * y + x)) = nI (rN r (210 + (10 * y + x))) ∧ rN r (210 + (10 * y + x)) ≤ rN r 2 ∧ ∀ d, d < rN r 2 → (rN r (210 + (10 * y + x)) = d + 1 ↔ 10 * y + x ∈ leafC r d 0 0)) ∧
  ∀ k, k < 3 * rN r 3 → r (310 + k) = nI (rN r (310 + k)) ∧ rN r (310 + k) < rN r 2
/-- a walker's angles and place, over a row -/
def okWalk (r : Row) (an : Nat → Int32) (pl : Int32) : Prop :=
  (∀ d, d < rN r 2 → an d = nI (an d).toNatClampNeg ∧ (an d).toNatClampNeg ≤ 2 ∧ canB r d (rN r (114 + 10 * d)) (an d).toNatClampNeg = true) ∧
  (∀ d e, d < rN r 2 → e < rN r 2 → d ≠ e → ∀ c ∈ leafC r d (rN r (114 + 10 * d)) (an d).toNatClampNeg, c ∉ leafC r e (rN r (114 + 10 * e)) (an e).toNatClampNeg) ∧
  (pl = -1 ∨ ∃ x y, x < rN r 0 ∧ y < rN r 1 ∧ pl = nI (10 * y + x) ∧ (r (10 + (10 * y + x)) = 0 ∨ 0 < r (210 + (10 * y + x))))
def IsAct (F : Fz) (a : Nat) (w v : Int32) (many : Nat) : Prop :=
  (∃ k, k < 4 ∧ w = nI k ∧ F a = some (.inr (11, [.int w, .int v])) ∧ v = nI v.toNatClampNeg ∧ 1 ≤ v.toNatClampNeg ∧ v.toNatClampNeg ≤ 30) ∨
  (w = 4 ∧ F a = some (.inr (12, [.int v])) ∧ v = nI v.toNatClampNeg ∧ v.toNatClampNeg < many) ∨ (w = 5 ∧ F a = some (.inr (13, [.int v])) ∧ v = nI v.toNatClampNeg ∧ v.toNatClampNeg < many) ∨
  (w = 6 ∧ F a = some (.inr (14, [.int v])) ∧ v = nI v.toNatClampNeg ∧ 1 ≤ v.toNatClampNeg ∧ v.toNatClampNeg ≤ 30)
def IsDay (F : Fz) (a : Nat) (r : Row) : Prop := ∃ (q : Nat) (f : Nat → Option Nat), F a = some (.inr (4, [.ref q, .int (r 341)])) ∧ F q = some (.inl (6, 60, .inr (.inr f))) ∧ r 341 = nI (rN r 341) ∧ rN r 341 ≤ 60 ∧ ∀ i, i < rN r 341 → ∃ c, f i = some c ∧ IsAct F c (r (342 + 2 * i)) (r (343 + 2 * i)) (rN r 2)
def IsCond (F : Fz) (r : Row) : Nat → Nat → Nat → Prop
  | 0, _, _ => False
  | n + 1, a, k =>
    (r (464 + 4 * k) = 1 ∧ ∃ b, F a = some (.inr (15, [.ref b])) ∧ r (465 + 4 * k) = nI (rN r (465 + 4 * k)) ∧ IsCond F r n b (rN r (465 + 4 * k))) ∨
    (r (464 + 4 * k) = 2 ∧ ∃ b c, F a = some (.inr (19, [.ref b, .ref c])) ∧ r (465 + 4 * k) = nI (rN r (465 + 4 * k)) ∧ r (466 + 4 * k) = nI (rN r (466 + 4 * k)) ∧ IsCond F r n b (rN r (465 + 4 * k)) ∧ IsCond F r n c (rN r (466 + 4 * k))) ∨
    (r (464 + 4 * k) = 3 ∧ ∃ b c, F a = some (.inr (20, [.ref b, .ref c])) ∧ r (465 + 4 * k) = nI (rN r (465 + 4 * k)) ∧ r (466 + 4 * k) = nI (rN r (466 + 4 * k)) ∧ IsCond F r n b (rN r (465 + 4 * k)) ∧ IsCond F r n c (rN r (466 + 4 * k))) ∨
    (r (464 + 4 * k) = 4 ∧ F a = some (.inr (17, [.int 0]))) ∨ (r (464 + 4 * k) = 5 ∧ F a = some (.inr (17, [.int 1]))) ∨ (r (464 + 4 * k) = 6 ∧ F a = some (.inr (17, [.int 2]))) ∨
    (r (464 + 4 * k) = 7 ∧ F a = some (.inr (16, [.int (r (465 + 4 * k))])) ∧ r (465 + 4 * k) = nI (rN r (465 + 4 * k)) ∧ rN r (465 + 4 * k) < rN r 2) ∨
    (∃ w, ((w = 0 ∧ r (464 + 4 * k) = 73) ∨ (w = 1 ∧ r (464 + 4 * k) = 74) ∨ (w = 2 ∧ r (464 + 4 * k) = 75) ∨ (w = 3 ∧ r (464 + 4 * k) = 56) ∨ (w = 4 ∧ r (464 + 4 * k) = 57)) ∧ F a = some (.inr (18, [.int w, .int (r (467 + 4 * k)), .int (r (466 + 4 * k))])))
/-- a sentence, or none -/
def IsSent (F : Fz) (s : Option Nat) (r : Row) : Prop := (s = none ∧ r 462 = 0) ∨ ∃ a, s = some a ∧ r 462 = 1 ∧ r 463 = nI (rN r 463) ∧ rN r 463 < 60 ∧ IsCond F r 60 a (rN r 463)
/-- all that is told and is so, as the class has it: house, hangings, angles, place, day, sentence -/
def IsAll (F : Fz) (ho : Nat) (hg an : Nat → Int32) (pl : Int32) (dy : Nat) (se : Option Nat) (r : Row) (nm : Nat → Int64) : Prop :=
  IsHouse F ho r nm ∧ okRow r ∧ (∀ d, d < rN r 2 → hg d = r (114 + 10 * d)) ∧ (∀ d, d < rN r 2 → an d = r (330 + d)) ∧ pl = r 340 ∧ okWalk r an pl ∧ IsDay F dy r ∧ IsSent F se r
def Rtape (len : Int32) (t : Nat → Int32) (taped : Int32) (u : Nat → Int32) : Prop := len = taped ∧ len = nI len.toNatClampNeg ∧ len.toNatClampNeg ≤ 940 ∧ ∀ i, i < 940 → u i = t i &&& 255 ∧ t i = (t i).toInt8.toInt32
def Rlist (n : Int32) (t : Nat → Int32) (m : Int32) (u : Nat → Int32) (top : Nat) : Prop := n = m ∧ n = nI n.toNatClampNeg ∧ n.toNatClampNeg ≤ top ∧ ∀ i, i < n.toNatClampNeg → t i = u i
def Rjudged (hj : Int32) (t u : Nat → Int32) : Prop := (hj = 0 ∧ ∀ i, i < 5 → u i = -2) ∨ (hj = 1 ∧ ∀ i, i < 5 → t i = u i)
/-- an image: none yet, or a walker of its own, a day, a sentence -/
def Rimage (F : Fz) (g : gH) (w d s : Option Nat) (kept : Int32) (r : Row) (nm : Nat → Int64) : Prop :=
  (w = none ∧ kept = 0) ∨ ∃ (a ho ha an dy : Nat) (mi sh pl : Int32) (fh fa : Nat → Int32), w = some a ∧ d = some dy ∧ kept = 1 ∧ g.1 a = .inr (2, [.ref ho, .ref ha, .ref an, .int pl, .int mi, .int sh]) ∧ g.1 ha = .inl (0, 10, .inl fh) ∧ g.1 an = .inl (0, 10, .inl fa) ∧ F a = none ∧ F ha = none ∧ F an = none ∧ a ≠ ha ∧ a ≠ an ∧ ha ≠ an ∧ a < g.2.1 ∧ ha < g.2.1 ∧ an < g.2.1 ∧ IsAll F ho fh fa pl dy s r nm
/-- the addresses of an image's walker -/
def imgAt (g : gH) (w : Option Nat) (q : Nat) : Prop := ∃ a ho ha an v, w = some a ∧ g.1 a = .inr (2, ho :: .ref ha :: .ref an :: v) ∧ (q = a ∨ q = ha ∨ q = an)
/-- the places of the class's own region that are written -/
def mutO : List Nat := [0, 1, 2, 7, 13, 14, 15, 21, 22, 25, 26, 27, 28, 29, 30, 31, 32, 33, 34, 35, 36, 37, 38, 39, 40, 41, 42, 43, 44, 47, 48, 49]
theorem xCell_else {ax : Nat} {xs : XS} {d : gA} {o : Nat} (h : o ∉ mutO) : xCell ax xs d o = d := by
  unfold xCell
  split <;> first | rfl | exact absurd (by decide) h
def Rsys (n : Nat) (F : Fz) (g : gH) (xs : XS) : Prop :=
  n + 84 ≤ g.2.1 ∧ (∀ a c, F a = some c → g.1 a = c ∧ n ≤ a ∧ a < g.2.1) ∧ (∀ o ∈ mutO, F (n + o) = none) ∧ (∀ a, n + 50 ≤ a → a ≤ n + 83 → F a = none) ∧
  (∃ f, g.1 (n + 83) = .inl (1, 1, .inr (.inl f))) ∧ xs.2.2.2.1 5 0 = 900 ∧ xs.2.2.2.1 6 0 = 600 ∧ xs.2.2.2.1 7 0 = 200 ∧
  (∀ o, o ∈ [3, 4, 5, 6, 45, 46] → F (n + o) = some ((cells0 n).getD o gDead)) ∧
  (∀ k, k < 2 → ∀ q, imgAt g (xs.2.2.2.2.2 43 k) q → n + 84 ≤ q) ∧ ∀ q, imgAt g (xs.2.2.2.2.2 43 0) q → ¬ imgAt g (xs.2.2.2.2.2 43 1) q
def RelC (n : Nat) (F : Fz) (g : gH) (xs : XS) (ms : MS) : Prop :=
  Rsys n F g xs ∧ Rtape (xs.1 1) (xs.2.2.1 0) (ms.1 2) (ms.2.2.1 1) ∧ xs.1 14 = ms.1 10 ∧ xs.2.2.2.1 0 4 = ms.1 23 ∧ (ms.1 22 = 0 ∨ ms.1 22 = 1) ∧
  (∃ ho dy, xs.2.1 200 = some ho ∧ xs.2.1 11 = some dy ∧ IsAll F ho (xs.2.2.1 200) (xs.2.2.1 201) (xs.2.2.2.1 0 3) dy (xs.2.1 42) (eRow ms) (ms.2.2.2 18)) ∧
  (∀ k, k < 2 → Rimage F g (xs.2.2.2.2.2 43 k) (xs.2.2.2.2.2 44 k) (xs.2.2.2.2.2 45 k) (ms.2.2.1 21 k) (kRow ms k) (fun d => ms.2.2.2 20 (10 * k + d))) ∧
  Rlist (xs.1 24) (xs.2.2.1 22) (ms.1 38) (ms.2.2.1 35) 10 ∧ Rlist (xs.1 25) (xs.2.2.1 23) (ms.1 37) (ms.2.2.1 36) 10 ∧ Rlist (xs.1 31) (xs.2.2.1 27) (ms.1 42) (ms.2.2.1 41) 10 ∧
  Rlist (xs.1 39) (xs.2.2.1 37) (ms.1 57) (ms.2.2.1 54) 24300 ∧ (∀ i, i < (xs.1 39).toNatClampNeg → ¬ xs.2.2.1 37 i < 0) ∧ Rjudged (xs.1 33) (xs.2.2.1 32) (ms.2.2.1 48)
def Rel (n : Nat) (h : gH) : Prop := ∃ (F : Fz) (g : gH) (xs : XS) (ms : MS), h = mkM (n + 50) (mkX n g xs) ms ∧ RelC n F g xs ms
/-- an op is done: both answer alike, all stays tied, its room is small -/
def OpOk (n : Nat) (h : gH) (S : gH → gH → Prop) : Prop := ∃ h', S h h' ∧ Rel n h' ∧ h'.2.1 ≤ h.2.1 + 9000 ∧ h'.2.2 ≤ h.2.2 + 100000
theorem Rsys.frozen {n : Nat} {F : Fz} {g : gH} {xs : XS} {ms : MS} (R : Rsys n F g xs) {a : Nat} {c : gA} (h : F a = some c) : (mkM (n + 50) (mkX n g xs) ms).1 a = c := by
  obtain ⟨e1, e2, e3⟩ := R.2.1 a c h
  have h50 : ¬ (n + 50 ≤ a ∧ a ≤ n + 83) := fun z => by rw [R.2.2.2.1 a z.1 z.2] at h; cases h
  simp only [mkM, if_neg (show ¬ a = n + 50 by omega), if_neg (show ¬ (n + 50 < a ∧ a ≤ n + 50 + 32) by omega)]
  obtain ⟨o, rfl⟩ : ∃ o, a = n + o := ⟨a - n, by omega⟩
  rw [mkX_at, xCell_else (fun z => by rw [R.2.2.1 o z] at h; cases h)]
  exact e1
