/-! THE PARSER, plain. State: end of the last token, names, elements -/
def keyWs : List (List Nat) := [[115, 101, 108, 101, 99, 116], [100, 105, 115, 116, 105, 110, 99, 116], [111, 114, 100, 101, 114], [100, 101, 115, 99], [108, 105, 109, 105, 116], [102, 105, 108, 116, 101, 114], [111, 112, 116, 105, 111, 110, 97, 108], [109, 105, 110, 117, 115], [117, 110, 105, 111, 110], [110, 111, 116], [98, 111, 117, 110, 100]]
def keyW (i : Nat) : List Nat := keyWs.getD i []
abbrev Tok : Type := Nat × List Nat × Nat × Nat
def isKy (t : Tok) (i : Nat) : Bool := decide (t.1 = 1 ∧ t.2.1 = keyW i)
def isAK (t : Tok) : Bool := decide (t.1 = 1 ∧ t.2.1 ∈ keyWs)
def isTm (t : Tok) : Bool := decide (t.1 = 2 ∨ (t.1 = 1 ∧ t.2.1 ∉ keyWs))
def isSg (t : Tok) (c : Nat) : Bool := decide (t.1 = 4 ∧ t.2.1 = [c])
abbrev PS : Type := Nat × List (List Nat) × Nat
abbrev Sd : Type := Nat ⊕ Int64
abbrev Tst : Type := Bool × (Nat ⊕ (Sd × Nat × Sd))
abbrev Pat : Type := Sd × Sd × Sd
abbrev El (G : Type) : Type := Pat ⊕ (Tst ⊕ (G ⊕ (G ⊕ List G)))
def GT : Nat → Type
  | 0 => Empty
  | n + 1 => List (El (GT n))
abbrev Rp (α : Type) : Type := Except Nat (α × PS)
section SPEC
variable (cs : List Nat)
def tk (s : PS) : Tok := lexT cs s.1
def nx (s : PS) : PS := ((tk cs s).2.2.2, s.2)
def er {α : Type} (s : PS) : Rp α := .error (tk cs s).2.2.1
def pVar (s : PS) : Rp Nat :=
  if (tk cs s).1 = 3 then
    let v := s.2.1.findIdx (fun w => decide (w = (tk cs s).2.1))
    if v < 6 then .ok (v, ((tk cs s).2.2.2, if v = s.2.1.length then s.2.1 ++ [(tk cs s).2.1] else s.2.1, s.2.2)) else er cs s
  else er cs s
def pSide (s : PS) : Rp Sd :=
  if (tk cs s).1 = 3 then (match pVar cs s with | .error q => .error q | .ok (v, s') => .ok (.inl v, s'))
  else if (tk cs s).1 = 2 then .ok (.inr (-1 - ncode (tk cs s).2.1), nx cs s)
  else if isTm (tk cs s) = true then .ok (.inr (wcode (tk cs s).2.1), nx cs s)
  else er cs s
def sgC (t : Tok) : Bool := isSg t 61 || isSg t 60 || isSg t 62 || isSg t 33
def pCore (s : PS) : Rp Tst :=
  if isKy (tk cs s) 10 = true then (match pVar cs (nx cs s) with | .error q => .error q | .ok (v, s') => .ok ((false, .inl v), s'))
  else match pSide cs s with
    | .error q => .error q
    | .ok (a, s1) => if sgC (tk cs s1) = true then (match pSide cs (nx cs s1) with | .error q => .error q | .ok (b, s2) => .ok ((false, .inr (a, (tk cs s1).2.1.headD 0, b)), s2)) else er cs s1
def pTest : Nat → PS → Rp Tst
  | 0, s => if isKy (tk cs s) 9 = true then er cs s else pCore cs s
  | n + 1, s => if isKy (tk cs s) 9 = true then (match pTest n (nx cs s) with | .error q => .error q | .ok (t, s') => .ok ((!t.1, t.2), s')) else pCore cs s
def canS (t : Tok) : Bool := isKy t 5 || isKy t 6 || isKy t 7 || isSg t 123 || decide (t.1 = 3) || isTm t
/-- further groups of a union; n are left -/
def pUni {G : Type} (grp : PS → Rp G) : Nat → PS → Rp (List G)
  | 0, s => if isKy (tk cs s) 8 = true then er cs (nx cs s) else .ok ([], s)
  | n + 1, s => if isKy (tk cs s) 8 = true then (match grp (nx cs s) with | .error q => .error q | .ok (g, s1) => (match pUni grp n s1 with | .error q => .error q | .ok (gs, s2) => .ok (g :: gs, s2))) else .ok ([], s)
def pPat (s : PS) : Rp Pat :=
  match pSide cs s with
  | .error q => .error q
  | .ok (a, s1) => match pSide cs s1 with
    | .error q => .error q
    | .ok (b, s2) => match pSide cs s2 with
      | .error q => .error q
      | .ok (c, s3) => .ok ((a, b, c), s3)
def pEl {G : Type} (grp : PS → Rp G) (s : PS) : Rp (El G) :=
  if (canS (tk cs s) && decide (s.2.2 < 12)) = true then
    let s1 : PS := (s.1, s.2.1, s.2.2 + 1)
    if isKy (tk cs s) 5 = true then (match pTest cs 4 (nx cs s1) with | .error q => .error q | .ok (t, s') => .ok (.inr (.inl t), s'))
    else if isKy (tk cs s) 6 = true then (match grp (nx cs s1) with | .error q => .error q | .ok (g, s') => .ok (.inr (.inr (.inl g)), s'))
    else if isKy (tk cs s) 7 = true then (match grp (nx cs s1) with | .error q => .error q | .ok (g, s') => .ok (.inr (.inr (.inr (.inl g))), s'))
    else if isSg (tk cs s) 123 = true then (match grp s1 with
      | .error q => .error q
      | .ok (g, s2) => (match pUni cs grp 11 s2 with | .error q => .error q | .ok (gs, s') => .ok (.inr (.inr (.inr (.inr (g :: gs)))), s')))
    else (match pPat cs s1 with | .error q => .error q | .ok (p, s') => .ok (.inl p, s'))
  else er cs s
/-- further elements; then the group's end -/
def pMore {G : Type} (grp : PS → Rp G) : Nat → PS → Rp (List (El G))
  | 0, s => if isSg (tk cs s) 125 = true then .ok ([], nx cs s) else if isSg (tk cs s) 46 = true then er cs (nx cs s) else er cs s
  | n + 1, s => if isSg (tk cs s) 125 = true then .ok ([], nx cs s) else if isSg (tk cs s) 46 = true then (match pEl cs grp (nx cs s) with | .error q => .error q | .ok (e, s1) => (match pMore grp n s1 with | .error q => .error q | .ok (es, s2) => .ok (e :: es, s2))) else er cs s
def pBody {G : Type} (grp : PS → Rp G) (s : PS) : Rp (List (El G)) :=
  if isSg (tk cs s) 125 = true then .ok ([], nx cs s)
  else (match pEl cs grp s with | .error q => .error q | .ok (e, s1) => (match pMore cs grp 12 s1 with | .error q => .error q | .ok (es, s2) => .ok (e :: es, s2)))
def pGr {G : Type} (grp : PS → Rp G) (s : PS) : Rp (List (El G)) :=
  if isSg (tk cs s) 123 = true then pBody cs grp (nx cs s) else er cs s
def pG : (n : Nat) → PS → Rp (GT n)
  | 0 => fun s => er cs s
  | n + 1 => pGr cs (pG n)
def pCols : Nat → PS → Rp (List Nat)
  | 0, s => er cs s
  | n + 1, s => match pVar cs s with
    | .error q => .error q
    | .ok (v, s1) => if (tk cs s1).1 = 3 then (match pCols n s1 with | .error q => .error q | .ok (vs, s2) => .ok (v :: vs, s2)) else .ok ([v], s1)
/-- order and its fall; limit -/
def pOrd (s : PS) : Rp (Option Nat × Bool) :=
  if isKy (tk cs s) 2 = true then (match pVar cs (nx cs s) with
    | .error q => .error q
    | .ok (v, s1) => if isKy (tk cs s1) 3 = true then .ok ((some v, true), nx cs s1) else .ok ((some v, false), s1))
  else .ok ((none, false), s)
def pLim (s : PS) : Rp (Option Nat) :=
  if isKy (tk cs s) 4 = true then (if (tk cs (nx cs s)).1 = 2 then .ok (some (nN (tk cs (nx cs s)).2.1), nx cs (nx cs s)) else er cs (nx cs s))
  else .ok (none, s)
abbrev Qry : Type := Bool × List Nat × GT 4 × (Option Nat × Bool) × Option Nat
def pRest (di : Bool) (s : PS) : Except Nat Qry :=
  match pCols cs 6 s with
  | .error q => .error q
  | .ok (vs, s2) => match pG cs 4 s2 with
    | .error q => .error q
    | .ok (g, s3) => match pOrd cs s3 with
      | .error q => .error q
      | .ok (o, s4) => match pLim cs s4 with
        | .error q => .error q
        | .ok (l, s5) => if (tk cs s5).1 = 0 then .ok (di, vs, g, o, l) else .error (tk cs s5).2.2.1
def pQry : Except Nat Qry :=
  if isKy (tk cs (0, [], 0)) 0 = true then pRest cs (isKy (tk cs (nx cs (0, [], 0))) 1) (if isKy (tk cs (nx cs (0, [], 0))) 1 = true then nx cs (nx cs (0, [], 0)) else nx cs (0, [], 0))
  else .error (tk cs (0, [], 0)).2.2.1
end SPEC
