/-! LOOPS: a measure that falls; all of the machine's frame is read off the goal -/
section GLP
variable {p : Program} {l : Launch} {e : Env} {R : Room} {s : State} {m : MethodId} {args : Array Value} {below : List Frame} {meth : Method} {c : Code} {Q : State → Prop}
theorem g_loop1 {A1 : Type} (St : A1 → Heap → List Loc → Array Slot → Prop) (cl sl mu : A1 → Nat) {head : Nat}
    (body : ∀ (x1 : A1), (∀ (y1 : A1) (H : Heap) (locs : List Loc) (ls : Array Slot), mu y1 < mu x1 → St y1 H locs ls → W p l e R s m args below meth c H locs (cl y1) (sl y1) Q (F0 m head ls [])) → ∀ (H : Heap) (locs : List Loc) (ls : Array Slot), St x1 H locs ls → W p l e R s m args below meth c H locs (cl x1) (sl x1) Q (F0 m head ls [])) :
    ∀ (x1 : A1) (H : Heap) (locs : List Loc) (ls : Array Slot), St x1 H locs ls → W p l e R s m args below meth c H locs (cl x1) (sl x1) Q (F0 m head ls []) := by
  have key : ∀ (n : Nat) (x1 : A1), mu x1 < n → ∀ (H : Heap) (locs : List Loc) (ls : Array Slot), St x1 H locs ls → W p l e R s m args below meth c H locs (cl x1) (sl x1) Q (F0 m head ls []) := by
    intro n
    induction n with
    | zero => intro x1 h; omega
    | succ n ih =>
      intro x1 h
      exact body x1 (fun y1 H locs ls hm hs => ih y1 (by omega) H locs ls hs)
  intro x1
  exact key _ x1 (Nat.lt_succ_self _)
theorem g_loop2 {A1 A2 : Type} (St : A1 → A2 → Heap → List Loc → Array Slot → Prop) (cl sl mu : A1 → A2 → Nat) {head : Nat}
    (body : ∀ (x1 : A1) (x2 : A2), (∀ (y1 : A1) (y2 : A2) (H : Heap) (locs : List Loc) (ls : Array Slot), mu y1 y2 < mu x1 x2 → St y1 y2 H locs ls → W p l e R s m args below meth c H locs (cl y1 y2) (sl y1 y2) Q (F0 m head ls [])) → ∀ (H : Heap) (locs : List Loc) (ls : Array Slot), St x1 x2 H locs ls → W p l e R s m args below meth c H locs (cl x1 x2) (sl x1 x2) Q (F0 m head ls [])) :
    ∀ (x1 : A1) (x2 : A2) (H : Heap) (locs : List Loc) (ls : Array Slot), St x1 x2 H locs ls → W p l e R s m args below meth c H locs (cl x1 x2) (sl x1 x2) Q (F0 m head ls []) := by
  have key : ∀ (n : Nat) (x1 : A1) (x2 : A2), mu x1 x2 < n → ∀ (H : Heap) (locs : List Loc) (ls : Array Slot), St x1 x2 H locs ls → W p l e R s m args below meth c H locs (cl x1 x2) (sl x1 x2) Q (F0 m head ls []) := by
    intro n
    induction n with
    | zero => intro x1 x2 h; omega
    | succ n ih =>
      intro x1 x2 h
      exact body x1 x2 (fun y1 y2 H locs ls hm hs => ih y1 y2 (by omega) H locs ls hs)
  intro x1 x2
  exact key _ x1 x2 (Nat.lt_succ_self _)
theorem g_loop3 {A1 A2 A3 : Type} (St : A1 → A2 → A3 → Heap → List Loc → Array Slot → Prop) (cl sl mu : A1 → A2 → A3 → Nat) {head : Nat}
    (body : ∀ (x1 : A1) (x2 : A2) (x3 : A3), (∀ (y1 : A1) (y2 : A2) (y3 : A3) (H : Heap) (locs : List Loc) (ls : Array Slot), mu y1 y2 y3 < mu x1 x2 x3 → St y1 y2 y3 H locs ls → W p l e R s m args below meth c H locs (cl y1 y2 y3) (sl y1 y2 y3) Q (F0 m head ls [])) → ∀ (H : Heap) (locs : List Loc) (ls : Array Slot), St x1 x2 x3 H locs ls → W p l e R s m args below meth c H locs (cl x1 x2 x3) (sl x1 x2 x3) Q (F0 m head ls [])) :
    ∀ (x1 : A1) (x2 : A2) (x3 : A3) (H : Heap) (locs : List Loc) (ls : Array Slot), St x1 x2 x3 H locs ls → W p l e R s m args below meth c H locs (cl x1 x2 x3) (sl x1 x2 x3) Q (F0 m head ls []) := by
  have key : ∀ (n : Nat) (x1 : A1) (x2 : A2) (x3 : A3), mu x1 x2 x3 < n → ∀ (H : Heap) (locs : List Loc) (ls : Array Slot), St x1 x2 x3 H locs ls → W p l e R s m args below meth c H locs (cl x1 x2 x3) (sl x1 x2 x3) Q (F0 m head ls []) := by
    intro n
    induction n with
    | zero => intro x1 x2 x3 h; omega
    | succ n ih =>
      intro x1 x2 x3 h
      exact body x1 x2 x3 (fun y1 y2 y3 H locs ls hm hs => ih y1 y2 y3 (by omega) H locs ls hs)
  intro x1 x2 x3
  exact key _ x1 x2 x3 (Nat.lt_succ_self _)
theorem g_loop4 {A1 A2 A3 A4 : Type} (St : A1 → A2 → A3 → A4 → Heap → List Loc → Array Slot → Prop) (cl sl mu : A1 → A2 → A3 → A4 → Nat) {head : Nat}
    (body : ∀ (x1 : A1) (x2 : A2) (x3 : A3) (x4 : A4), (∀ (y1 : A1) (y2 : A2) (y3 : A3) (y4 : A4) (H : Heap) (locs : List Loc) (ls : Array Slot), mu y1 y2 y3 y4 < mu x1 x2 x3 x4 → St y1 y2 y3 y4 H locs ls → W p l e R s m args below meth c H locs (cl y1 y2 y3 y4) (sl y1 y2 y3 y4) Q (F0 m head ls [])) → ∀ (H : Heap) (locs : List Loc) (ls : Array Slot), St x1 x2 x3 x4 H locs ls → W p l e R s m args below meth c H locs (cl x1 x2 x3 x4) (sl x1 x2 x3 x4) Q (F0 m head ls [])) :
    ∀ (x1 : A1) (x2 : A2) (x3 : A3) (x4 : A4) (H : Heap) (locs : List Loc) (ls : Array Slot), St x1 x2 x3 x4 H locs ls → W p l e R s m args below meth c H locs (cl x1 x2 x3 x4) (sl x1 x2 x3 x4) Q (F0 m head ls []) := by
  have key : ∀ (n : Nat) (x1 : A1) (x2 : A2) (x3 : A3) (x4 : A4), mu x1 x2 x3 x4 < n → ∀ (H : Heap) (locs : List Loc) (ls : Array Slot), St x1 x2 x3 x4 H locs ls → W p l e R s m args below meth c H locs (cl x1 x2 x3 x4) (sl x1 x2 x3 x4) Q (F0 m head ls []) := by
    intro n
    induction n with
    | zero => intro x1 x2 x3 x4 h; omega
    | succ n ih =>
      intro x1 x2 x3 x4 h
      exact body x1 x2 x3 x4 (fun y1 y2 y3 y4 H locs ls hm hs => ih y1 y2 y3 y4 (by omega) H locs ls hs)
  intro x1 x2 x3 x4
  exact key _ x1 x2 x3 x4 (Nat.lt_succ_self _)
theorem g_loop5 {A1 A2 A3 A4 A5 : Type} (St : A1 → A2 → A3 → A4 → A5 → Heap → List Loc → Array Slot → Prop) (cl sl mu : A1 → A2 → A3 → A4 → A5 → Nat) {head : Nat}
    (body : ∀ (x1 : A1) (x2 : A2) (x3 : A3) (x4 : A4) (x5 : A5), (∀ (y1 : A1) (y2 : A2) (y3 : A3) (y4 : A4) (y5 : A5) (H : Heap) (locs : List Loc) (ls : Array Slot), mu y1 y2 y3 y4 y5 < mu x1 x2 x3 x4 x5 → St y1 y2 y3 y4 y5 H locs ls → W p l e R s m args below meth c H locs (cl y1 y2 y3 y4 y5) (sl y1 y2 y3 y4 y5) Q (F0 m head ls [])) → ∀ (H : Heap) (locs : List Loc) (ls : Array Slot), St x1 x2 x3 x4 x5 H locs ls → W p l e R s m args below meth c H locs (cl x1 x2 x3 x4 x5) (sl x1 x2 x3 x4 x5) Q (F0 m head ls [])) :
    ∀ (x1 : A1) (x2 : A2) (x3 : A3) (x4 : A4) (x5 : A5) (H : Heap) (locs : List Loc) (ls : Array Slot), St x1 x2 x3 x4 x5 H locs ls → W p l e R s m args below meth c H locs (cl x1 x2 x3 x4 x5) (sl x1 x2 x3 x4 x5) Q (F0 m head ls []) := by
  have key : ∀ (n : Nat) (x1 : A1) (x2 : A2) (x3 : A3) (x4 : A4) (x5 : A5), mu x1 x2 x3 x4 x5 < n → ∀ (H : Heap) (locs : List Loc) (ls : Array Slot), St x1 x2 x3 x4 x5 H locs ls → W p l e R s m args below meth c H locs (cl x1 x2 x3 x4 x5) (sl x1 x2 x3 x4 x5) Q (F0 m head ls []) := by
    intro n
    induction n with
    | zero => intro x1 x2 x3 x4 x5 h; omega
    | succ n ih =>
      intro x1 x2 x3 x4 x5 h
      exact body x1 x2 x3 x4 x5 (fun y1 y2 y3 y4 y5 H locs ls hm hs => ih y1 y2 y3 y4 y5 (by omega) H locs ls hs)
  intro x1 x2 x3 x4 x5
  exact key _ x1 x2 x3 x4 x5 (Nat.lt_succ_self _)
end GLP
