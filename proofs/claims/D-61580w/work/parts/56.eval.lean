/-! EVALUATION, plain -/
def empS : Sol := fun _ => none
def compB (s t : Sol) : Bool := (List.range 6).all (fun v => match s v, t v with
  | some a, some b => decide (a = b)
  | _, _ => true)
def shrB (s t : Sol) : Bool := (List.range 6).any (fun v => (s v).isSome && (t v).isSome)
def joinS (s t : Sol) : Sol := fun v => (s v).or (t v)
def capL (l : List Sol) : Option (List Sol) := if l.length ≤ 150 then some l else none
def mtch (a : Sol) (B : List Sol) : List Sol := (B.filter (compB a)).map (joinS a)
def joinL (A B : List Sol) : List Sol := A.flatMap (fun a => mtch a B)
def optL (A B : List Sol) : List Sol := A.flatMap (fun a => if mtch a B = [] then [a] else mtch a B)
def minL (A B : List Sol) : List Sol := A.filter (fun a => !(B.any (fun b => compB a b && shrB a b)))
def updS (s : Sol) (v : Nat) (x : Int64) : Sol := fun w => if w = v then some x else s w
def stM (s : Sol) (sd : Sd) (x : Int64) : Option Sol := match sd with
  | .inl v => match s v with
    | some y => if y = x then some s else none
    | none => some (updS s v x)
  | .inr c => if c = x then some s else none
def matP (p : Pat) (t : Tri) : Option Sol := ((stM empS p.1 t.1).bind (fun s => stM s p.2.1 t.2.1)).bind (fun s => stM s p.2.2 t.2.2)
def patL (p : Pat) (L : List Tri) : List Sol := L.filterMap (matP p)
/-- a word's code with its first letter highest -/
def alN : Nat → Nat → Nat
  | 0, n => n
  | k + 1, n => if n < 2 ^ 56 then alN k (n * 256) else n
def ltT (x y : Int64) : Bool := if x < 0 ∨ y < 0 then (if x < 0 ∧ y < 0 then decide (y < x) else decide (x < 0)) else decide (alN 8 x.toBitVec.toNat < alN 8 y.toBitVec.toNat)
def sdV (sd : Sd) (s : Sol) : Option Int64 := match sd with
  | .inl v => s v
  | .inr c => some c
def cmpG (g : Nat) (x y : Int64) : Bool := if g = 61 then decide (x = y) else if g = 33 then decide (x ≠ y) else if g = 60 then ltT x y else ltT y x
def hoC (c : Nat ⊕ (Sd × Nat × Sd)) (s : Sol) : Bool := match c with
  | .inl v => (s v).isSome
  | .inr (a, g, b) => match sdV a s, sdV b s with
    | some x, some y => cmpG g x y
    | _, _ => false
def hoT (t : Tst) (s : Sol) : Bool := t.1 ^^ hoC t.2 s
def uniE {G : Type} (ev : G → Option (List Sol)) : List G → List Sol → Option (List Sol)
  | [], acc => some acc
  | g :: gs, acc => (ev g).bind (fun part => (capL (acc ++ part)).bind (fun a => uniE ev gs a))
def evE {G : Type} (ev : G → Option (List Sol)) (L : List Tri) (e : El G) (so : List Sol) : Option (List Sol) := match e with
  | .inl p => capL (joinL so (patL p L))
  | .inr (.inl _) => some so
  | .inr (.inr (.inl g)) => (ev g).bind (fun own => capL (optL so own))
  | .inr (.inr (.inr (.inl g))) => (ev g).bind (fun own => some (minL so own))
  | .inr (.inr (.inr (.inr gs))) => (uniE ev gs []).bind (fun own => capL (joinL so own))
def evEs {G : Type} (ev : G → Option (List Sol)) (L : List Tri) : List (El G) → List Sol → Option (List Sol)
  | [], so => some so
  | e :: es, so => (evE ev L e so).bind (fun s' => evEs ev L es s')
def tsOf {G : Type} (els : List (El G)) : List Tst := els.filterMap (fun e => match e with
  | .inr (.inl t) => some t
  | _ => none)
def evB {G : Type} (ev : G → Option (List Sol)) (L : List Tri) (els : List (El G)) : Option (List Sol) := (evEs ev L els [empS]).bind (fun so => some (so.filter (fun s => (tsOf els).all (fun t => hoT t s))))
def evG (L : List Tri) : (n : Nat) → GT n → Option (List Sol)
  | 0 => fun e => nomatch e
  | n + 1 => fun els => evB (evG L n) L els
