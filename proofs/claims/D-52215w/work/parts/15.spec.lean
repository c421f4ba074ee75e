/-! THE PICTURE: cells of the objects, and the numbers that the small methods compute -/
abbrev dO (pt pa lv am lf : Int32) : va_E := .inr (2, [.int pt, .int pa, .int lv, .int am, .int lf])
abbrev kO (sp an lf : Int32) : va_E := .inr (3, [.int sp, .int an, .int lf])
abbrev sO (dg lt : Int32) : va_E := .inr (4, [.int dg, .int lt])
abbrev uO (tm : Int32) (k : Nat) (a b : Int32) : va_E := .inr (5, [.int tm, .ref k, .int a, .int b])
abbrev aO (mo : Int32) (el : Nat) (n : Int32) : va_E := .inr (6, [.int mo, .ref el, .int n])
abbrev coO (tk ck rn an sp ln lf : Int32) (ld lc : Nat) : va_E := .inr (1, [.int tk, .int ck, .int rn, .int an, .int sp, .int ln, .int lf, .ref ld, .ref lc])
abbrev xO (cu st co : Nat) : va_E := .inr (0, [.ref cu, .ref st, .ref co])
abbrev mO (th dm st cu : Int32) (la sk ta sh nu : Nat) : va_E := .inr (7, [.int th, .int dm, .int st, .int cu, .ref la, .ref sk, .ref ta, .ref sh, .ref nu])
abbrev rO (E : EnvT) (n : Nat) (f : Nat → Option Nat) : va_E := .inl (eC E 1, n, .inr (.inr (.inr (.inr f))))
abbrev iO (E : EnvT) (n : Nat) (f : Nat → Int32) : va_E := .inl (eC E 0, n, .inl f)
abbrev lO (E : EnvT) (n : Nat) (f : Nat → Int64) : va_E := .inl (eC E 2, n, .inr (.inl f))
/-- Java's remainder -/
abbrev iR (x y : Int32) : Int32 := x - x / y * y
def isInV (v lo hi : Int32) : Int32 := if v < lo then 0 else if hi < v then 0 else 1
def rnd (x : Int32) : Int32 := iR (iR x 360 + 360) 360
/-- what a dimmer adds to the glare of a part -/
def glr (pt lv of : Int32) : Int32 := if iR (of - pt + 12) 12 = 0 then lv else if iR (of - pt + 12) 12 = 1 then lv / 4 else if iR (of - pt + 12) 12 = 11 then lv / 4 else 0
/-- a dimmer's level behind its way to the aim -/
def lvGo (pa lv am : Int32) : Int32 := if am ≤ lv then (if am < lv - pa then lv - pa else am) else (if lv + pa < am then lv + pa else am)
def lfGo (lv lf : Int32) : Int32 := if 0 < lf - lv / 10 then lf - lv / 10 else 0
def lvEnd (lv lf : Int32) : Int32 := if lf = 0 then 0 else lv
def goneV (lf : Int32) : Int32 := if lf = 0 then 1 else 0
/-- a comet behind a tick: its angle, its ticks left -/
def cpsA (sp an lf : Int32) : Int32 := if lf = 0 then an else rnd (an + sp)
def cpsL (lf : Int32) : Int32 := if lf = 0 then lf else lf - 1
theorem gU_id {G : Gh} {a : Nat} {x : Tg × va_E} (h : G a = some x) : gU G a x = G := by
  funext q
  unfold gU
  by_cases z : q = a
  · rw [if_pos z, z, h]
  · rw [if_neg z]
theorem g_fne {G : Gh} {a b : Nat} {x : Tg × va_E} (ha : G a = none) (hb : G b = some x) : b ≠ a := fun z => by rw [z, ha] at hb; cases hb
