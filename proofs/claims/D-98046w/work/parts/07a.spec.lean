/-! 07a: what a night is, over a view N (rows as the model's arrays are numbered: 300 + field; scalars at 200) -/
set_option maxRecDepth 100000
def nat (N : KI) (a k : Nat) : Nat := (N a k).toNatClampNeg
abbrev nQ (N : KI) : Nat := nat N 304 0
abbrev nE (N : KI) : Nat := nat N 304 1
abbrev nS (N : KI) : Nat := nat N 304 2
abbrev nH (N : KI) : Nat := nat N 304 3
abbrev nM (N : KI) : Nat := nat N 200 44
abbrev isHd (N : KI) (e h : Nat) : Prop := ∃ k, k < nH N ∧ N 320 k = nI e ∧ N 321 k ≤ nI h ∧ nI h ≤ N 322 k
/-- the first m meals, of eel e in hour h: hunger, and the last that made it less -/
def eatP (N : KI) (e h : Nat) : Nat → Int32 × Int32 → Int32 × Int32
  | 0, p => p
  | m + 1, p =>
    let p' := eatP N e h m p
    if N 337 m = nI e ∧ N 338 m = nI h then
      (if N 339 m = 0 then 0 else mx 0 (p'.1 - 5), if (if N 339 m = 0 then 0 else mx 0 (p'.1 - 5)) < p'.1 then nI m else p'.2)
    else p'
def grw (N : KI) (e : Nat) : Int32 := if N 309 e = 1 then 2 else 1
/-- ahead of hour h's meals -/
def hb (N : KI) (e : Nat) : Nat → Int32 × Int32
  | 0 => (N 313 e, -1)
  | h + 1 => (mn2 30 ((eatP N e h (nM N) (hb N e h)).1 + grw N e), (eatP N e h (nM N) (hb N e h)).2)
def hun (N : KI) (e h : Nat) : Int32 := (eatP N e h (nM N) (hb N e h)).1
def lst (N : KI) (e h : Nat) : Int32 := (eatP N e h (nM N) (hb N e h)).2
/-- what one eel gives that is hungry by v -/
def glv (N : KI) (e h : Nat) (v : Int32) : Int32 :=
  if N 309 e = 3 ∧ 5 ≤ N 318 h then 0 else mx 0 (N 312 e - (if N 309 e = 2 then v / 2 else v) - N 200 45)
def glo (N : KI) (e h : Nat) : Int32 := if isHd N e h then 0 else glv N e h (hun N e h)
/-- glows at a quay, of the first n eels, by a row of glows -/
def sumG (N : KI) (G : Nat → Int32) (q h : Nat) : Nat → Int32
  | 0 => 0
  | e + 1 => if N 311 e = nI q then sumG N G q h e + G (24 * e + h) else sumG N G q h e
def rw_ (N : KI) (G : Nat → Int32) (q h : Nat) : Int32 := sumG N G q h (nE N) * (100 - N 307 q) / 100
def lig (N : KI) (G : Nat → Int32) (q h : Nat) : Int32 := if N 305 q = 1 then (if h = 0 then 0 else rw_ N G q (h - 1)) else rw_ N G q h
/-- the row of glows of a night -/
def gRow (N : KI) : Nat → Int32 := fun j => glo N (j / 24) (j % 24)
def hRow (N : KI) : Nat → Int32 := fun j => hun N (j / 24) (j % 24)
def Lig (N : KI) (q h : Nat) : Int32 := lig N (gRow N) q h
theorem gRow_at (N : KI) (e : Nat) {h : Nat} (hh : h < 24) : gRow N (24 * e + h) = glo N e h := by
  unfold gRow
  rw [show (24 * e + h) / 24 = e by omega, show (24 * e + h) % 24 = h by omega]
theorem hRow_at (N : KI) (e : Nat) {h : Nat} (hh : h < 24) : hRow N (24 * e + h) = hun N e h := by
  unfold hRow
  rw [show (24 * e + h) / 24 = e by omega, show (24 * e + h) % 24 = h by omega]
theorem sumG_eq {N : KI} {G G' : Nat → Int32} {q h : Nat} : ∀ {n : Nat}, (∀ e, e < n → N 311 e = nI q → G (24 * e + h) = G' (24 * e + h)) → sumG N G q h n = sumG N G' q h n
  | 0, _ => rfl
  | n + 1, hg => by
    have ih := sumG_eq (n := n) (fun e he => hg e (by omega))
    unfold sumG
    by_cases hq : N 311 n = nI q
    · rw [if_pos hq, if_pos hq, ih, hg n (by omega) hq]
    · rw [if_neg hq, if_neg hq, ih]
/-- hungers of a quay together, of the first n eels -/
def hunQ (N : KI) (Hg : Nat → Int32) (q h : Nat) : Nat → Int32
  | 0 => -1
  | e + 1 => if N 311 e = nI q then mx 0 (hunQ N Hg q h e) + Hg (24 * e + h) else hunQ N Hg q h e
abbrev isWy (N : KI) (a c : Nat) : Prop := N 308 a >>> (nI c &&& 31) &&& 1 = 1
abbrev seen (N : KI) (L : Nat → Nat → Int32) (s : Nat) (q h : Nat) : Prop := N 318 h < L q h ∧ N 317 s ≤ L q h
/-- the first of the highest among those that may be -/
def pk (c : Nat → Bool) (v : Nat → Int32) : Nat → Option Nat
  | 0 => none
  | n + 1 => if c n && (match pk c v n with | none => true | some j => decide (v j < v n)) then some n else pk c v n
def cnd (N : KI) (L : Nat → Nat → Int32) (Hg : Nat → Int32) (s at_ h q : Nat) : Bool :=
  decide (isWy N at_ q) && (if N 314 s = 2 then true else if N 314 s = 3 then decide (¬ hunQ N Hg q h (nE N) = -1) else decide (seen N L s q h))
def drw (N : KI) (L : Nat → Nat → Int32) (Hg : Nat → Int32) (s h q : Nat) : Int32 := if N 314 s = 2 then 1000 - L q h else if N 314 s = 3 then hunQ N Hg q h (nE N) else L q h
/-- one leg from a quay where one doesn't stay -/
def leg (N : KI) (L : Nat → Nat → Int32) (Hg : Nat → Int32) (s at_ h : Nat) : Nat := (pk (cnd N L Hg s at_ h) (drw N L Hg s h) (nQ N)).getD at_
def endK (N : KI) (q : Nat) : Nat := if N 305 q = 3 then 1 else if N 305 q = 2 then 2 else 0
/-- where a ship is behind an hour -/
def stp (N : KI) (L : Nat → Nat → Int32) (Hg : Nat → Int32) (s at_ h : Nat) : Nat :=
  if N 314 s = 1 then (if endK N (leg N L Hg s at_ h) = 0 then leg N L Hg s (leg N L Hg s at_ h) h else leg N L Hg s at_ h) else leg N L Hg s at_ h
def nxt (N : KI) (L : Nat → Nat → Int32) (Hg : Nat → Int32) (s at_ h : Nat) : Nat := if endK N at_ = 0 then stp N L Hg s at_ h else at_
/-- so many hours behind its own -/
def pos (N : KI) (L : Nat → Nat → Int32) (Hg : Nat → Int32) (s : Nat) : Nat → Nat
  | 0 => nat N 315 s
  | k + 1 => nxt N L Hg s (pos N L Hg s k) (nat N 316 s + k)
def posAt (N : KI) (L : Nat → Nat → Int32) (Hg : Nat → Int32) (s h : Nat) : Nat := pos N L Hg s (h - nat N 316 s)
/-- a port that has been read -/
def NOK (N : KI) : Prop :=
  (N 304 0 = nI (nQ N) ∧ N 304 1 = nI (nE N) ∧ N 304 2 = nI (nS N) ∧ N 304 3 = nI (nH N) ∧ nQ N ≤ 8 ∧ nE N ≤ 6 ∧ nS N ≤ 4 ∧ nH N ≤ 6) ∧
  (∀ q, q < nQ N → N 305 q = nI (nat N 305 q) ∧ nat N 305 q < 4 ∧ 0 ≤ N 307 q ∧ N 307 q ≤ 100 ∧ (nat N 305 q = 3 → N 306 q = 0 ∨ N 306 q = 1) ∧ (¬ nat N 305 q = 3 → N 306 q = -1)) ∧
  (∀ e, e < nE N → N 309 e = nI (nat N 309 e) ∧ nat N 309 e < 4 ∧ N 311 e = nI (nat N 311 e) ∧ nat N 311 e < nQ N ∧ 1 ≤ N 312 e ∧ N 312 e ≤ 40 ∧ 0 ≤ N 313 e ∧ N 313 e ≤ 20 ∧ (N 310 e = 0 ∨ N 310 e = 1)) ∧
  (∀ s, s < nS N → N 314 s = nI (nat N 314 s) ∧ nat N 314 s < 4 ∧ N 315 s = nI (nat N 315 s) ∧ nat N 315 s < nQ N ∧ N 316 s = nI (nat N 316 s) ∧ nat N 316 s < 24 ∧ 0 ≤ N 317 s) ∧
  (∀ h, h < 24 → 0 ≤ N 318 h ∧ N 318 h ≤ 20) ∧ (∀ c, c < 10 → N 319 c = nI (nat N 319 c) ∧ nat N 319 c < 100) ∧
  (∀ k, k < nH N → N 320 k = nI (nat N 320 k) ∧ nat N 320 k < nE N)
/-- meals and a cold -/
def MOKs (N : KI) : Prop := N 200 44 = nI (nM N) ∧ nM N ≤ 26 ∧ N 200 45 = nI (nat N 200 45) ∧ nat N 200 45 < 10 ∧
  ∀ m, m < nM N → N 337 m = nI (nat N 337 m) ∧ nat N 337 m < nE N ∧ N 338 m = nI (nat N 338 m) ∧ nat N 338 m < 24 ∧ (N 339 m = 0 ∨ N 339 m = 1)
