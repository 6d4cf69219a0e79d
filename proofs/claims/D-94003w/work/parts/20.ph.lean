/-! PURE H: pictures of the component -/
set_option maxRecDepth 100000
/-- a list at l of n elements, its row at e -/
def AL (h : AH) (l e : Nat) (n : Int) : Prop :=
  hK h l = 32 ∧
  hI h l 2 = iI n ∧
  hR h l 1 = some e ∧
  (0 ≤ n ∧ n ≤ 200) ∧
  ((hK h e = 108 ∧ n ≤ hL h e ∧ hL h e ≤ 200 ∧ 10 ≤ hL h e) ∨ (n = 0 ∧ hK h e = 120 ∧ hL h e = 0 ∧ hR h 0 0 = some e))
theorem AL.k {h : AH} {l e : Nat} {n : Int} (t_ : AL h l e n) : hK h l = 32 := t_.1
theorem AL.n {h : AH} {l e : Nat} {n : Int} (t_ : AL h l e n) : hI h l 2 = iI n := t_.2.1
theorem AL.r {h : AH} {l e : Nat} {n : Int} (t_ : AL h l e n) : hR h l 1 = some e := t_.2.2.1
theorem AL.p {h : AH} {l e : Nat} {n : Int} (t_ : AL h l e n) : 0 ≤ n ∧ n ≤ 200 := t_.2.2.2.1
theorem AL.c {h : AH} {l e : Nat} {n : Int} (t_ : AL h l e n) : (hK h e = 108 ∧ n ≤ hL h e ∧ hL h e ≤ 200 ∧ 10 ≤ hL h e) ∨ (n = 0 ∧ hK h e = 120 ∧ hL h e = 0 ∧ hR h 0 0 = some e) := t_.2.2.2.2
/-- what the numbers of a told row may be -/
def RG (τ : Nat → Int) : Prop :=
  (0 ≤ τ 0 ∧ τ 0 ≤ 4) ∧
  (0 ≤ τ 1 ∧ τ 1 ≤ 6) ∧
  (0 ≤ τ 2 ∧ τ 2 ≤ 3000) ∧
  (0 ≤ τ 3 ∧ τ 3 ≤ 8) ∧
  (0 ≤ τ 4 ∧ τ 4 ≤ 6) ∧
  (0 ≤ τ 5 ∧ τ 5 ≤ 60) ∧
  (0 ≤ τ 6 ∧ τ 6 ≤ 10) ∧
  (∀ i : Nat, i < 4 → 0 ≤ τ (8 + i) ∧ τ (8 + i) ≤ 99) ∧
  (∀ i : Nat, i < 4 → 0 ≤ τ (12 + i) ∧ τ (12 + i) ≤ 99) ∧
  (∀ i : Nat, i < 4 → 0 ≤ τ (16 + i) ∧ τ (16 + i) ≤ 3) ∧
  (∀ i : Nat, i < 4 → 0 ≤ τ (20 + i) ∧ τ (20 + i) ≤ 99) ∧
  (∀ i : Nat, (i : Int) < τ 0 → -1 ≤ τ (24 + i) ∧ τ (24 + i) < τ 2 + 1 ∧ τ (24 + i) < 3000) ∧
  (∀ k : Nat, (k : Int) < τ 1 → (1 ≤ τ (28 + 4 * k) ∧ τ (28 + 4 * k) ≤ 99) ∧ (0 ≤ τ (29 + 4 * k) ∧ τ (29 + 4 * k) < τ 0) ∧ (0 ≤ τ (30 + 4 * k) ∧ τ (30 + 4 * k) < 16) ∧ (0 ≤ τ (31 + 4 * k) ∧ τ (31 + 4 * k) ≤ 20)) ∧
  (∀ i : Nat, i < 8 → 0 ≤ τ (52 + i) ∧ τ (52 + i) ≤ 99) ∧
  (∀ i : Nat, (i : Int) < 3 * τ 4 → -1 ≤ τ (60 + i) ∧ τ (60 + i) ≤ 20) ∧
  (∀ i : Nat, i < 42 → 0 ≤ τ (78 + i) ∧ τ (78 + i) ≤ 9) ∧
  (τ 120 = -1 ∨ (1 ≤ τ 120 ∧ τ 120 ≤ 99)) ∧
  (0 ≤ τ 121 ∧ τ 121 < 16777216) ∧
  (-1 ≤ τ 122 ∧ τ 122 ≤ 99) ∧
  (τ 123 = 0 ∨ τ 123 = 1) ∧
  (τ 124 = 0 ∨ τ 124 = 1) ∧
  (∀ i : Nat, i < 1024 → 0 ≤ τ (1885 + i) ∧ τ (1885 + i) ≤ 99) ∧
  (∀ i : Nat, i < 240 → 0 ≤ τ (2909 + i) ∧ τ (2909 + i) ≤ 99) ∧
  (∀ k : Nat, (k : Int) < τ 6 → (0 ≤ τ (3149 + 3 * k) ∧ τ (3149 + 3 * k) < 4) ∧ (0 ≤ τ (3150 + 3 * k) ∧ τ (3150 + 3 * k) ≤ 3000) ∧ (-99 ≤ τ (3151 + 3 * k) ∧ τ (3151 + 3 * k) ≤ 99)) ∧
  (∀ i, i31 (τ i))
theorem RG.n {τ : Nat → Int} (t_ : RG τ) : 0 ≤ τ 0 ∧ τ 0 ≤ 4 := t_.1
theorem RG.d {τ : Nat → Int} (t_ : RG τ) : 0 ≤ τ 1 ∧ τ 1 ≤ 6 := t_.2.1
theorem RG.h {τ : Nat → Int} (t_ : RG τ) : 0 ≤ τ 2 ∧ τ 2 ≤ 3000 := t_.2.2.1
theorem RG.l {τ : Nat → Int} (t_ : RG τ) : 0 ≤ τ 3 ∧ τ 3 ≤ 8 := t_.2.2.2.1
theorem RG.r {τ : Nat → Int} (t_ : RG τ) : 0 ≤ τ 4 ∧ τ 4 ≤ 6 := t_.2.2.2.2.1
theorem RG.t {τ : Nat → Int} (t_ : RG τ) : 0 ≤ τ 5 ∧ τ 5 ≤ 60 := t_.2.2.2.2.2.1
theorem RG.c {τ : Nat → Int} (t_ : RG τ) : 0 ≤ τ 6 ∧ τ 6 ≤ 10 := t_.2.2.2.2.2.2.1
theorem RG.cost {τ : Nat → Int} (t_ : RG τ) : ∀ i : Nat, i < 4 → 0 ≤ τ (8 + i) ∧ τ (8 + i) ≤ 99 := t_.2.2.2.2.2.2.2.1
theorem RG.price {τ : Nat → Int} (t_ : RG τ) : ∀ i : Nat, i < 4 → 0 ≤ τ (12 + i) ∧ τ (12 + i) ≤ 99 := t_.2.2.2.2.2.2.2.2.1
theorem RG.late {τ : Nat → Int} (t_ : RG τ) : ∀ i : Nat, i < 4 → 0 ≤ τ (16 + i) ∧ τ (16 + i) ≤ 3 := t_.2.2.2.2.2.2.2.2.2.1
theorem RG.first {τ : Nat → Int} (t_ : RG τ) : ∀ i : Nat, i < 4 → 0 ≤ τ (20 + i) ∧ τ (20 + i) ≤ 99 := t_.2.2.2.2.2.2.2.2.2.2.1
theorem RG.chg {τ : Nat → Int} (t_ : RG τ) : ∀ i : Nat, (i : Int) < τ 0 → -1 ≤ τ (24 + i) ∧ τ (24 + i) < τ 2 + 1 ∧ τ (24 + i) < 3000 := t_.2.2.2.2.2.2.2.2.2.2.2.1
theorem RG.drv {τ : Nat → Int} (t_ : RG τ) : ∀ k : Nat, (k : Int) < τ 1 → (1 ≤ τ (28 + 4 * k) ∧ τ (28 + 4 * k) ≤ 99) ∧ (0 ≤ τ (29 + 4 * k) ∧ τ (29 + 4 * k) < τ 0) ∧ (0 ≤ τ (30 + 4 * k) ∧ τ (30 + 4 * k) < 16) ∧ (0 ≤ τ (31 + 4 * k) ∧ τ (31 + 4 * k) ≤ 20) := t_.2.2.2.2.2.2.2.2.2.2.2.2.1
theorem RG.lev {τ : Nat → Int} (t_ : RG τ) : ∀ i : Nat, i < 8 → 0 ≤ τ (52 + i) ∧ τ (52 + i) ≤ 99 := t_.2.2.2.2.2.2.2.2.2.2.2.2.2.1
theorem RG.rise {τ : Nat → Int} (t_ : RG τ) : ∀ i : Nat, (i : Int) < 3 * τ 4 → -1 ≤ τ (60 + i) ∧ τ (60 + i) ≤ 20 := t_.2.2.2.2.2.2.2.2.2.2.2.2.2.2.1
theorem RG.wgt {τ : Nat → Int} (t_ : RG τ) : ∀ i : Nat, i < 42 → 0 ≤ τ (78 + i) ∧ τ (78 + i) ≤ 9 := t_.2.2.2.2.2.2.2.2.2.2.2.2.2.2.2.1
theorem RG.once {τ : Nat → Int} (t_ : RG τ) : τ 120 = -1 ∨ (1 ≤ τ 120 ∧ τ 120 ≤ 99) := t_.2.2.2.2.2.2.2.2.2.2.2.2.2.2.2.2.1
theorem RG.at {τ : Nat → Int} (t_ : RG τ) : 0 ≤ τ 121 ∧ τ 121 < 16777216 := t_.2.2.2.2.2.2.2.2.2.2.2.2.2.2.2.2.2.1
theorem RG.cap {τ : Nat → Int} (t_ : RG τ) : -1 ≤ τ 122 ∧ τ 122 ≤ 99 := t_.2.2.2.2.2.2.2.2.2.2.2.2.2.2.2.2.2.2.1
theorem RG.told {τ : Nat → Int} (t_ : RG τ) : τ 123 = 0 ∨ τ 123 = 1 := t_.2.2.2.2.2.2.2.2.2.2.2.2.2.2.2.2.2.2.2.1
theorem RG.byc {τ : Nat → Int} (t_ : RG τ) : τ 124 = 0 ∨ τ 124 = 1 := t_.2.2.2.2.2.2.2.2.2.2.2.2.2.2.2.2.2.2.2.2.1
theorem RG.brd {τ : Nat → Int} (t_ : RG τ) : ∀ i : Nat, i < 1024 → 0 ≤ τ (1885 + i) ∧ τ (1885 + i) ≤ 99 := t_.2.2.2.2.2.2.2.2.2.2.2.2.2.2.2.2.2.2.2.2.2.1
theorem RG.row {τ : Nat → Int} (t_ : RG τ) : ∀ i : Nat, i < 240 → 0 ≤ τ (2909 + i) ∧ τ (2909 + i) ≤ 99 := t_.2.2.2.2.2.2.2.2.2.2.2.2.2.2.2.2.2.2.2.2.2.2.1
theorem RG.chn {τ : Nat → Int} (t_ : RG τ) : ∀ k : Nat, (k : Int) < τ 6 → (0 ≤ τ (3149 + 3 * k) ∧ τ (3149 + 3 * k) < 4) ∧ (0 ≤ τ (3150 + 3 * k) ∧ τ (3150 + 3 * k) ≤ 3000) ∧ (-99 ≤ τ (3151 + 3 * k) ∧ τ (3151 + 3 * k) ≤ 99) := t_.2.2.2.2.2.2.2.2.2.2.2.2.2.2.2.2.2.2.2.2.2.2.2.1
theorem RG.i {τ : Nat → Int} (t_ : RG τ) : ∀ i, i31 (τ i) := t_.2.2.2.2.2.2.2.2.2.2.2.2.2.2.2.2.2.2.2.2.2.2.2.2
def MoveE (σ : Nat → Int) (g : AH) (mv p : Nat) : Prop :=
  (σ p = 0 ∧ hK g mv = 16 ∧ 0 ≤ σ (p + 1) ∧ σ (p + 1) ≤ 99 ∧ hI g mv 0 = iI (σ (p + 1))) ∨
  (σ p = 1 ∧ hK g mv = 17 ∧ 0 ≤ σ (p + 1) ∧ σ (p + 1) ≤ 99 ∧ hI g mv 0 = iI (σ (p + 1))) ∨
  (σ p = 2 ∧ hK g mv = 18 ∧ 0 ≤ σ (p + 1) ∧ σ (p + 1) ≤ 99 ∧ hI g mv 0 = iI (σ (p + 1))) ∨
  (σ p = 3 ∧ hK g mv = 19 ∧ 0 ≤ σ (p + 1) ∧ σ (p + 1) ≤ 99 ∧ hI g mv 0 = iI (σ (p + 1))) ∨
  (σ p = 4 ∧ hK g mv = 19 ∧ hI g mv 0 = iI 0) ∨
  (σ p = 5 ∧ hK g mv = 20)
def RuleE (σ : Nat → Int) (g : AH) (a p q : Nat) : Prop := hK g a = 21 ∧ (∃ mv, hR g a 0 = some mv ∧ MoveE σ g mv p) ∧ 0 ≤ σ (p + 2) ∧ q = p + 3 + (σ (p + 2)).toNat ∧ ((σ (p + 2) = 0 ∧ hR g a 1 = none) ∨ (0 < σ (p + 2) ∧ ∃ c, hR g a 1 = some c ∧ TermE σ g 450 true c (p + 3) q))
/-- the list at rl holds the rules that the signs say -/
def RuP (o : Nat → Nat) (σ : Nat → Int) (g : AH) (rl : Nat) : Prop := ∃ (e : Nat) (el pos : Nat → Nat), AL g rl e (σ 0) ∧ σ 0 ≤ 12 ∧ o rl = 6 ∧ (hK g e = 108 → o e = 6) ∧ pos 0 = 1 ∧ (∀ r : Nat, (r : Int) ≤ σ 0 → pos r ≤ 440) ∧ ∀ r : Nat, (r : Int) < σ 0 → hR g e r = some (el r) ∧ RuleE σ g (el r) (pos r) (pos (r + 1))
def StP (o : Nat → Nat) (h : AH) (a : Nat) (τ : Nat → Int) (υ : Nat → Int64) (s : Nat) : Prop :=
  hK h a = 9 ∧
  hI h a 0 = iI (τ (8 + s)) ∧
  hI h a 1 = iI (τ (16 + s)) ∧
  hI h a 2 = iI (τ (12 + s)) ∧
  hI h a 3 = iI (τ (24 + s)) ∧
  hI h a 4 = iI (τ (20 + s)) ∧
  hJ h a 5 = υ s ∧
  hJ h a 6 = υ (4 + s) ∧
  (∃ rl, hR h a 7 = some rl ∧ RuP o (fun i => τ (125 + 440 * s + i)) h rl)
theorem StP.k {o : Nat → Nat} {h : AH} {a : Nat} {τ : Nat → Int} {υ : Nat → Int64} {s : Nat} (t_ : StP o h a τ υ s) : hK h a = 9 := t_.1
theorem StP.i0 {o : Nat → Nat} {h : AH} {a : Nat} {τ : Nat → Int} {υ : Nat → Int64} {s : Nat} (t_ : StP o h a τ υ s) : hI h a 0 = iI (τ (8 + s)) := t_.2.1
theorem StP.i1 {o : Nat → Nat} {h : AH} {a : Nat} {τ : Nat → Int} {υ : Nat → Int64} {s : Nat} (t_ : StP o h a τ υ s) : hI h a 1 = iI (τ (16 + s)) := t_.2.2.1
theorem StP.i2 {o : Nat → Nat} {h : AH} {a : Nat} {τ : Nat → Int} {υ : Nat → Int64} {s : Nat} (t_ : StP o h a τ υ s) : hI h a 2 = iI (τ (12 + s)) := t_.2.2.2.1
theorem StP.i3 {o : Nat → Nat} {h : AH} {a : Nat} {τ : Nat → Int} {υ : Nat → Int64} {s : Nat} (t_ : StP o h a τ υ s) : hI h a 3 = iI (τ (24 + s)) := t_.2.2.2.2.1
theorem StP.i4 {o : Nat → Nat} {h : AH} {a : Nat} {τ : Nat → Int} {υ : Nat → Int64} {s : Nat} (t_ : StP o h a τ υ s) : hI h a 4 = iI (τ (20 + s)) := t_.2.2.2.2.2.1
theorem StP.j5 {o : Nat → Nat} {h : AH} {a : Nat} {τ : Nat → Int} {υ : Nat → Int64} {s : Nat} (t_ : StP o h a τ υ s) : hJ h a 5 = υ s := t_.2.2.2.2.2.2.1
theorem StP.j6 {o : Nat → Nat} {h : AH} {a : Nat} {τ : Nat → Int} {υ : Nat → Int64} {s : Nat} (t_ : StP o h a τ υ s) : hJ h a 6 = υ (4 + s) := t_.2.2.2.2.2.2.2.1
theorem StP.r {o : Nat → Nat} {h : AH} {a : Nat} {τ : Nat → Int} {υ : Nat → Int64} {s : Nat} (t_ : StP o h a τ υ s) : ∃ rl, hR h a 7 = some rl ∧ RuP o (fun i => τ (125 + 440 * s + i)) h rl := t_.2.2.2.2.2.2.2.2
/-- a crossing at x is as the row τ and the sums υ say -/
def CrP (o : Nat → Nat) (t : Nat) (h : AH) (x : Nat) (τ : Nat → Int) (υ : Nat → Int64) (e : Nat → Nat) (el : Nat → Nat → Nat) (lw : Nat) : Prop :=
  hK h x = 2 ∧
  hR h x 0 = some (x + 1) ∧
  hR h x 1 = some (x + 2) ∧
  hR h x 2 = some (x + 3) ∧
  hR h x 3 = some (x + 4) ∧
  hR h x 4 = some (x + 5) ∧
  hR h x 5 = some lw ∧
  hR h x 6 = some (x + 7) ∧
  hR h x 7 = some (x + 264) ∧
  hR h x 8 = some (x + 265) ∧
  hI h x 9 = iI (τ 2) ∧
  hI h x 10 = iI (τ 3) ∧
  hJ h x 11 = υ 8 ∧
  hK h (x + 7) = 106 ∧
  hL h (x + 7) = 256 ∧
  (∀ k : Nat, k < 256 → hR h (x + 7) k = some (x + 8 + k) ∧ hK h (x + 8 + k) = 101 ∧ hL h (x + 8 + k) = 4 ∧ ∀ s : Nat, s < 4 → hI h (x + 8 + k) s = iI (τ (1885 + 4 * k + s))) ∧
  hK h (x + 264) = 100 ∧
  hL h (x + 264) = 8 ∧
  (∀ i : Nat, i < 8 → hI h (x + 264) i = iI (τ (52 + i))) ∧
  hK h (x + 265) = 105 ∧
  hL h (x + 265) = 2 ∧
  (∀ s : Nat, s < 2 → hR h (x + 265) s = some (x + 266 + s) ∧ hK h (x + 266 + s) = 100 ∧ hL h (x + 266 + s) = 21 ∧ ∀ l : Nat, l < 21 → hI h (x + 266 + s) l = iI (τ (78 + 21 * s + l))) ∧
  hK h lw = 3 ∧
  hI h lw 0 = iI (if τ 120 = -1 then 0 else τ 120) ∧
  hI h lw 1 = iI (τ 121) ∧
  hI h lw 2 = iI (τ 122) ∧
  hI h lw 3 = iI (τ 123) ∧
  hI h lw 4 = iI (τ 124) ∧
  AL h (x + 1) (e 0) (τ 0) ∧
  AL h (x + 2) (e 1) (τ 1) ∧
  AL h (x + 3) (e 2) (τ 6) ∧
  AL h (x + 4) (e 3) (τ 4) ∧
  AL h (x + 5) (e 4) (τ 5) ∧
  (∀ i : Nat, (i : Int) < τ 0 → hR h (e 0) i = some (el 0 i) ∧ StP o h (el 0 i) τ υ i) ∧
  (∀ k : Nat, (k : Int) < τ 1 → hR h (e 1) k = some (el 1 k) ∧ hK h (el 1 k) = 10 ∧ hI h (el 1 k) 0 = iI (τ (28 + 4 * k)) ∧ hI h (el 1 k) 1 = iI (τ (29 + 4 * k)) ∧ hI h (el 1 k) 2 = iI (τ (30 + 4 * k)) ∧ hI h (el 1 k) 3 = iI (τ (31 + 4 * k))) ∧
  (∀ k : Nat, (k : Int) < τ 6 → hR h (e 2) k = some (el 2 k) ∧ hK h (el 2 k) = 11 ∧ hI h (el 2 k) 0 = iI (τ (3149 + 3 * k)) ∧ hI h (el 2 k) 1 = iI (τ (3150 + 3 * k)) ∧ hI h (el 2 k) 2 = iI (τ (3151 + 3 * k))) ∧
  (∀ k : Nat, (k : Int) < τ 4 → hR h (e 3) k = some (el 3 k) ∧ hK h (el 3 k) = 100 ∧ o (el 3 k) = 6 ∧ 0 ≤ τ (60 + 3 * k) ∧ hL h (el 3 k) = (if τ (61 + 3 * k) = -1 then 1 else if τ (62 + 3 * k) = -1 then 2 else 3) ∧ (τ (61 + 3 * k) = -1 → τ (62 + 3 * k) = -1) ∧ ∀ j : Nat, j < hL h (el 3 k) → hI h (el 3 k) j = iI (τ (60 + 3 * k + j))) ∧
  (∀ k : Nat, (k : Int) < τ 5 → hR h (e 4) k = some (el 4 k) ∧ hK h (el 4 k) = 100 ∧ o (el 4 k) = 6 ∧ hL h (el 4 k) = 4 ∧ ∀ s : Nat, (s : Int) < τ 0 → hI h (el 4 k) s = iI (τ (2909 + 4 * k + s))) ∧
  RG τ ∧
  (∀ i : Nat, i ≤ 267 → i ≠ 6 → o (x + i) = t) ∧
  (∀ j : Nat, j < 5 → (hK h (e j) = 108 → o (e j) = t) ∧ (hK h (e j) = 120 → o (e j) = 7) ∧ (e j < x ∨ x + 267 < e j)) ∧
  (∀ j k : Nat, j < 5 → k < 5 → hK h (e j) = 108 → e j = e k → j = k) ∧
  (∀ i : Nat, (i : Int) < τ 0 → o (el 0 i) = t ∧ (el 0 i < x ∨ x + 267 < el 0 i)) ∧
  (∀ i j : Nat, (i : Int) < τ 0 → (j : Int) < τ 0 → el 0 i = el 0 j → i = j) ∧
  (∀ s : Nat, τ 0 ≤ (s : Int) → s < 4 → υ s = 0 ∧ υ (4 + s) = 0)
theorem CrP.k {o : Nat → Nat} {t : Nat} {h : AH} {x : Nat} {τ : Nat → Int} {υ : Nat → Int64} {e : Nat → Nat} {el : Nat → Nat → Nat} {lw : Nat} (t_ : CrP o t h x τ υ e el lw) : hK h x = 2 := t_.1
theorem CrP.r0 {o : Nat → Nat} {t : Nat} {h : AH} {x : Nat} {τ : Nat → Int} {υ : Nat → Int64} {e : Nat → Nat} {el : Nat → Nat → Nat} {lw : Nat} (t_ : CrP o t h x τ υ e el lw) : hR h x 0 = some (x + 1) := t_.2.1
theorem CrP.r1 {o : Nat → Nat} {t : Nat} {h : AH} {x : Nat} {τ : Nat → Int} {υ : Nat → Int64} {e : Nat → Nat} {el : Nat → Nat → Nat} {lw : Nat} (t_ : CrP o t h x τ υ e el lw) : hR h x 1 = some (x + 2) := t_.2.2.1
theorem CrP.r2 {o : Nat → Nat} {t : Nat} {h : AH} {x : Nat} {τ : Nat → Int} {υ : Nat → Int64} {e : Nat → Nat} {el : Nat → Nat → Nat} {lw : Nat} (t_ : CrP o t h x τ υ e el lw) : hR h x 2 = some (x + 3) := t_.2.2.2.1
theorem CrP.r3 {o : Nat → Nat} {t : Nat} {h : AH} {x : Nat} {τ : Nat → Int} {υ : Nat → Int64} {e : Nat → Nat} {el : Nat → Nat → Nat} {lw : Nat} (t_ : CrP o t h x τ υ e el lw) : hR h x 3 = some (x + 4) := t_.2.2.2.2.1
theorem CrP.r4 {o : Nat → Nat} {t : Nat} {h : AH} {x : Nat} {τ : Nat → Int} {υ : Nat → Int64} {e : Nat → Nat} {el : Nat → Nat → Nat} {lw : Nat} (t_ : CrP o t h x τ υ e el lw) : hR h x 4 = some (x + 5) := t_.2.2.2.2.2.1
theorem CrP.r5 {o : Nat → Nat} {t : Nat} {h : AH} {x : Nat} {τ : Nat → Int} {υ : Nat → Int64} {e : Nat → Nat} {el : Nat → Nat → Nat} {lw : Nat} (t_ : CrP o t h x τ υ e el lw) : hR h x 5 = some lw := t_.2.2.2.2.2.2.1
theorem CrP.r6 {o : Nat → Nat} {t : Nat} {h : AH} {x : Nat} {τ : Nat → Int} {υ : Nat → Int64} {e : Nat → Nat} {el : Nat → Nat → Nat} {lw : Nat} (t_ : CrP o t h x τ υ e el lw) : hR h x 6 = some (x + 7) := t_.2.2.2.2.2.2.2.1
theorem CrP.r7 {o : Nat → Nat} {t : Nat} {h : AH} {x : Nat} {τ : Nat → Int} {υ : Nat → Int64} {e : Nat → Nat} {el : Nat → Nat → Nat} {lw : Nat} (t_ : CrP o t h x τ υ e el lw) : hR h x 7 = some (x + 264) := t_.2.2.2.2.2.2.2.2.1
theorem CrP.r8 {o : Nat → Nat} {t : Nat} {h : AH} {x : Nat} {τ : Nat → Int} {υ : Nat → Int64} {e : Nat → Nat} {el : Nat → Nat → Nat} {lw : Nat} (t_ : CrP o t h x τ υ e el lw) : hR h x 8 = some (x + 265) := t_.2.2.2.2.2.2.2.2.2.1
theorem CrP.i9 {o : Nat → Nat} {t : Nat} {h : AH} {x : Nat} {τ : Nat → Int} {υ : Nat → Int64} {e : Nat → Nat} {el : Nat → Nat → Nat} {lw : Nat} (t_ : CrP o t h x τ υ e el lw) : hI h x 9 = iI (τ 2) := t_.2.2.2.2.2.2.2.2.2.2.1
theorem CrP.i10 {o : Nat → Nat} {t : Nat} {h : AH} {x : Nat} {τ : Nat → Int} {υ : Nat → Int64} {e : Nat → Nat} {el : Nat → Nat → Nat} {lw : Nat} (t_ : CrP o t h x τ υ e el lw) : hI h x 10 = iI (τ 3) := t_.2.2.2.2.2.2.2.2.2.2.2.1
theorem CrP.j11 {o : Nat → Nat} {t : Nat} {h : AH} {x : Nat} {τ : Nat → Int} {υ : Nat → Int64} {e : Nat → Nat} {el : Nat → Nat → Nat} {lw : Nat} (t_ : CrP o t h x τ υ e el lw) : hJ h x 11 = υ 8 := t_.2.2.2.2.2.2.2.2.2.2.2.2.1
theorem CrP.kb {o : Nat → Nat} {t : Nat} {h : AH} {x : Nat} {τ : Nat → Int} {υ : Nat → Int64} {e : Nat → Nat} {el : Nat → Nat → Nat} {lw : Nat} (t_ : CrP o t h x τ υ e el lw) : hK h (x + 7) = 106 := t_.2.2.2.2.2.2.2.2.2.2.2.2.2.1
theorem CrP.lb {o : Nat → Nat} {t : Nat} {h : AH} {x : Nat} {τ : Nat → Int} {υ : Nat → Int64} {e : Nat → Nat} {el : Nat → Nat → Nat} {lw : Nat} (t_ : CrP o t h x τ υ e el lw) : hL h (x + 7) = 256 := t_.2.2.2.2.2.2.2.2.2.2.2.2.2.2.1
theorem CrP.b {o : Nat → Nat} {t : Nat} {h : AH} {x : Nat} {τ : Nat → Int} {υ : Nat → Int64} {e : Nat → Nat} {el : Nat → Nat → Nat} {lw : Nat} (t_ : CrP o t h x τ υ e el lw) : ∀ k : Nat, k < 256 → hR h (x + 7) k = some (x + 8 + k) ∧ hK h (x + 8 + k) = 101 ∧ hL h (x + 8 + k) = 4 ∧ ∀ s : Nat, s < 4 → hI h (x + 8 + k) s = iI (τ (1885 + 4 * k + s)) := t_.2.2.2.2.2.2.2.2.2.2.2.2.2.2.2.1
theorem CrP.kl {o : Nat → Nat} {t : Nat} {h : AH} {x : Nat} {τ : Nat → Int} {υ : Nat → Int64} {e : Nat → Nat} {el : Nat → Nat → Nat} {lw : Nat} (t_ : CrP o t h x τ υ e el lw) : hK h (x + 264) = 100 := t_.2.2.2.2.2.2.2.2.2.2.2.2.2.2.2.2.1
theorem CrP.ll {o : Nat → Nat} {t : Nat} {h : AH} {x : Nat} {τ : Nat → Int} {υ : Nat → Int64} {e : Nat → Nat} {el : Nat → Nat → Nat} {lw : Nat} (t_ : CrP o t h x τ υ e el lw) : hL h (x + 264) = 8 := t_.2.2.2.2.2.2.2.2.2.2.2.2.2.2.2.2.2.1
theorem CrP.l {o : Nat → Nat} {t : Nat} {h : AH} {x : Nat} {τ : Nat → Int} {υ : Nat → Int64} {e : Nat → Nat} {el : Nat → Nat → Nat} {lw : Nat} (t_ : CrP o t h x τ υ e el lw) : ∀ i : Nat, i < 8 → hI h (x + 264) i = iI (τ (52 + i)) := t_.2.2.2.2.2.2.2.2.2.2.2.2.2.2.2.2.2.2.1
theorem CrP.kw {o : Nat → Nat} {t : Nat} {h : AH} {x : Nat} {τ : Nat → Int} {υ : Nat → Int64} {e : Nat → Nat} {el : Nat → Nat → Nat} {lw : Nat} (t_ : CrP o t h x τ υ e el lw) : hK h (x + 265) = 105 := t_.2.2.2.2.2.2.2.2.2.2.2.2.2.2.2.2.2.2.2.1
theorem CrP.lw_ {o : Nat → Nat} {t : Nat} {h : AH} {x : Nat} {τ : Nat → Int} {υ : Nat → Int64} {e : Nat → Nat} {el : Nat → Nat → Nat} {lw : Nat} (t_ : CrP o t h x τ υ e el lw) : hL h (x + 265) = 2 := t_.2.2.2.2.2.2.2.2.2.2.2.2.2.2.2.2.2.2.2.2.1
theorem CrP.w {o : Nat → Nat} {t : Nat} {h : AH} {x : Nat} {τ : Nat → Int} {υ : Nat → Int64} {e : Nat → Nat} {el : Nat → Nat → Nat} {lw : Nat} (t_ : CrP o t h x τ υ e el lw) : ∀ s : Nat, s < 2 → hR h (x + 265) s = some (x + 266 + s) ∧ hK h (x + 266 + s) = 100 ∧ hL h (x + 266 + s) = 21 ∧ ∀ l : Nat, l < 21 → hI h (x + 266 + s) l = iI (τ (78 + 21 * s + l)) := t_.2.2.2.2.2.2.2.2.2.2.2.2.2.2.2.2.2.2.2.2.2.1
theorem CrP.kL {o : Nat → Nat} {t : Nat} {h : AH} {x : Nat} {τ : Nat → Int} {υ : Nat → Int64} {e : Nat → Nat} {el : Nat → Nat → Nat} {lw : Nat} (t_ : CrP o t h x τ υ e el lw) : hK h lw = 3 := t_.2.2.2.2.2.2.2.2.2.2.2.2.2.2.2.2.2.2.2.2.2.2.1
theorem CrP.L0 {o : Nat → Nat} {t : Nat} {h : AH} {x : Nat} {τ : Nat → Int} {υ : Nat → Int64} {e : Nat → Nat} {el : Nat → Nat → Nat} {lw : Nat} (t_ : CrP o t h x τ υ e el lw) : hI h lw 0 = iI (if τ 120 = -1 then 0 else τ 120) := t_.2.2.2.2.2.2.2.2.2.2.2.2.2.2.2.2.2.2.2.2.2.2.2.1
theorem CrP.L1 {o : Nat → Nat} {t : Nat} {h : AH} {x : Nat} {τ : Nat → Int} {υ : Nat → Int64} {e : Nat → Nat} {el : Nat → Nat → Nat} {lw : Nat} (t_ : CrP o t h x τ υ e el lw) : hI h lw 1 = iI (τ 121) := t_.2.2.2.2.2.2.2.2.2.2.2.2.2.2.2.2.2.2.2.2.2.2.2.2.1
theorem CrP.L2 {o : Nat → Nat} {t : Nat} {h : AH} {x : Nat} {τ : Nat → Int} {υ : Nat → Int64} {e : Nat → Nat} {el : Nat → Nat → Nat} {lw : Nat} (t_ : CrP o t h x τ υ e el lw) : hI h lw 2 = iI (τ 122) := t_.2.2.2.2.2.2.2.2.2.2.2.2.2.2.2.2.2.2.2.2.2.2.2.2.2.1
theorem CrP.L3 {o : Nat → Nat} {t : Nat} {h : AH} {x : Nat} {τ : Nat → Int} {υ : Nat → Int64} {e : Nat → Nat} {el : Nat → Nat → Nat} {lw : Nat} (t_ : CrP o t h x τ υ e el lw) : hI h lw 3 = iI (τ 123) := t_.2.2.2.2.2.2.2.2.2.2.2.2.2.2.2.2.2.2.2.2.2.2.2.2.2.2.1
theorem CrP.L4 {o : Nat → Nat} {t : Nat} {h : AH} {x : Nat} {τ : Nat → Int} {υ : Nat → Int64} {e : Nat → Nat} {el : Nat → Nat → Nat} {lw : Nat} (t_ : CrP o t h x τ υ e el lw) : hI h lw 4 = iI (τ 124) := t_.2.2.2.2.2.2.2.2.2.2.2.2.2.2.2.2.2.2.2.2.2.2.2.2.2.2.2.1
theorem CrP.a0 {o : Nat → Nat} {t : Nat} {h : AH} {x : Nat} {τ : Nat → Int} {υ : Nat → Int64} {e : Nat → Nat} {el : Nat → Nat → Nat} {lw : Nat} (t_ : CrP o t h x τ υ e el lw) : AL h (x + 1) (e 0) (τ 0) := t_.2.2.2.2.2.2.2.2.2.2.2.2.2.2.2.2.2.2.2.2.2.2.2.2.2.2.2.2.1
theorem CrP.a1 {o : Nat → Nat} {t : Nat} {h : AH} {x : Nat} {τ : Nat → Int} {υ : Nat → Int64} {e : Nat → Nat} {el : Nat → Nat → Nat} {lw : Nat} (t_ : CrP o t h x τ υ e el lw) : AL h (x + 2) (e 1) (τ 1) := t_.2.2.2.2.2.2.2.2.2.2.2.2.2.2.2.2.2.2.2.2.2.2.2.2.2.2.2.2.2.1
theorem CrP.a2 {o : Nat → Nat} {t : Nat} {h : AH} {x : Nat} {τ : Nat → Int} {υ : Nat → Int64} {e : Nat → Nat} {el : Nat → Nat → Nat} {lw : Nat} (t_ : CrP o t h x τ υ e el lw) : AL h (x + 3) (e 2) (τ 6) := t_.2.2.2.2.2.2.2.2.2.2.2.2.2.2.2.2.2.2.2.2.2.2.2.2.2.2.2.2.2.2.1
theorem CrP.a3 {o : Nat → Nat} {t : Nat} {h : AH} {x : Nat} {τ : Nat → Int} {υ : Nat → Int64} {e : Nat → Nat} {el : Nat → Nat → Nat} {lw : Nat} (t_ : CrP o t h x τ υ e el lw) : AL h (x + 4) (e 3) (τ 4) := t_.2.2.2.2.2.2.2.2.2.2.2.2.2.2.2.2.2.2.2.2.2.2.2.2.2.2.2.2.2.2.2.1
theorem CrP.a4 {o : Nat → Nat} {t : Nat} {h : AH} {x : Nat} {τ : Nat → Int} {υ : Nat → Int64} {e : Nat → Nat} {el : Nat → Nat → Nat} {lw : Nat} (t_ : CrP o t h x τ υ e el lw) : AL h (x + 5) (e 4) (τ 5) := t_.2.2.2.2.2.2.2.2.2.2.2.2.2.2.2.2.2.2.2.2.2.2.2.2.2.2.2.2.2.2.2.2.1
theorem CrP.st {o : Nat → Nat} {t : Nat} {h : AH} {x : Nat} {τ : Nat → Int} {υ : Nat → Int64} {e : Nat → Nat} {el : Nat → Nat → Nat} {lw : Nat} (t_ : CrP o t h x τ υ e el lw) : ∀ i : Nat, (i : Int) < τ 0 → hR h (e 0) i = some (el 0 i) ∧ StP o h (el 0 i) τ υ i := t_.2.2.2.2.2.2.2.2.2.2.2.2.2.2.2.2.2.2.2.2.2.2.2.2.2.2.2.2.2.2.2.2.2.1
theorem CrP.dr {o : Nat → Nat} {t : Nat} {h : AH} {x : Nat} {τ : Nat → Int} {υ : Nat → Int64} {e : Nat → Nat} {el : Nat → Nat → Nat} {lw : Nat} (t_ : CrP o t h x τ υ e el lw) : ∀ k : Nat, (k : Int) < τ 1 → hR h (e 1) k = some (el 1 k) ∧ hK h (el 1 k) = 10 ∧ hI h (el 1 k) 0 = iI (τ (28 + 4 * k)) ∧ hI h (el 1 k) 1 = iI (τ (29 + 4 * k)) ∧ hI h (el 1 k) 2 = iI (τ (30 + 4 * k)) ∧ hI h (el 1 k) 3 = iI (τ (31 + 4 * k)) := t_.2.2.2.2.2.2.2.2.2.2.2.2.2.2.2.2.2.2.2.2.2.2.2.2.2.2.2.2.2.2.2.2.2.2.1
theorem CrP.ch {o : Nat → Nat} {t : Nat} {h : AH} {x : Nat} {τ : Nat → Int} {υ : Nat → Int64} {e : Nat → Nat} {el : Nat → Nat → Nat} {lw : Nat} (t_ : CrP o t h x τ υ e el lw) : ∀ k : Nat, (k : Int) < τ 6 → hR h (e 2) k = some (el 2 k) ∧ hK h (el 2 k) = 11 ∧ hI h (el 2 k) 0 = iI (τ (3149 + 3 * k)) ∧ hI h (el 2 k) 1 = iI (τ (3150 + 3 * k)) ∧ hI h (el 2 k) 2 = iI (τ (3151 + 3 * k)) := t_.2.2.2.2.2.2.2.2.2.2.2.2.2.2.2.2.2.2.2.2.2.2.2.2.2.2.2.2.2.2.2.2.2.2.2.1
theorem CrP.ri {o : Nat → Nat} {t : Nat} {h : AH} {x : Nat} {τ : Nat → Int} {υ : Nat → Int64} {e : Nat → Nat} {el : Nat → Nat → Nat} {lw : Nat} (t_ : CrP o t h x τ υ e el lw) : ∀ k : Nat, (k : Int) < τ 4 → hR h (e 3) k = some (el 3 k) ∧ hK h (el 3 k) = 100 ∧ o (el 3 k) = 6 ∧ 0 ≤ τ (60 + 3 * k) ∧ hL h (el 3 k) = (if τ (61 + 3 * k) = -1 then 1 else if τ (62 + 3 * k) = -1 then 2 else 3) ∧ (τ (61 + 3 * k) = -1 → τ (62 + 3 * k) = -1) ∧ ∀ j : Nat, j < hL h (el 3 k) → hI h (el 3 k) j = iI (τ (60 + 3 * k + j)) := t_.2.2.2.2.2.2.2.2.2.2.2.2.2.2.2.2.2.2.2.2.2.2.2.2.2.2.2.2.2.2.2.2.2.2.2.2.1
theorem CrP.to {o : Nat → Nat} {t : Nat} {h : AH} {x : Nat} {τ : Nat → Int} {υ : Nat → Int64} {e : Nat → Nat} {el : Nat → Nat → Nat} {lw : Nat} (t_ : CrP o t h x τ υ e el lw) : ∀ k : Nat, (k : Int) < τ 5 → hR h (e 4) k = some (el 4 k) ∧ hK h (el 4 k) = 100 ∧ o (el 4 k) = 6 ∧ hL h (el 4 k) = 4 ∧ ∀ s : Nat, (s : Int) < τ 0 → hI h (el 4 k) s = iI (τ (2909 + 4 * k + s)) := t_.2.2.2.2.2.2.2.2.2.2.2.2.2.2.2.2.2.2.2.2.2.2.2.2.2.2.2.2.2.2.2.2.2.2.2.2.2.1
theorem CrP.rg {o : Nat → Nat} {t : Nat} {h : AH} {x : Nat} {τ : Nat → Int} {υ : Nat → Int64} {e : Nat → Nat} {el : Nat → Nat → Nat} {lw : Nat} (t_ : CrP o t h x τ υ e el lw) : RG τ := t_.2.2.2.2.2.2.2.2.2.2.2.2.2.2.2.2.2.2.2.2.2.2.2.2.2.2.2.2.2.2.2.2.2.2.2.2.2.2.1
theorem CrP.ox {o : Nat → Nat} {t : Nat} {h : AH} {x : Nat} {τ : Nat → Int} {υ : Nat → Int64} {e : Nat → Nat} {el : Nat → Nat → Nat} {lw : Nat} (t_ : CrP o t h x τ υ e el lw) : ∀ i : Nat, i ≤ 267 → i ≠ 6 → o (x + i) = t := t_.2.2.2.2.2.2.2.2.2.2.2.2.2.2.2.2.2.2.2.2.2.2.2.2.2.2.2.2.2.2.2.2.2.2.2.2.2.2.2.1
theorem CrP.oe {o : Nat → Nat} {t : Nat} {h : AH} {x : Nat} {τ : Nat → Int} {υ : Nat → Int64} {e : Nat → Nat} {el : Nat → Nat → Nat} {lw : Nat} (t_ : CrP o t h x τ υ e el lw) : ∀ j : Nat, j < 5 → (hK h (e j) = 108 → o (e j) = t) ∧ (hK h (e j) = 120 → o (e j) = 7) ∧ (e j < x ∨ x + 267 < e j) := t_.2.2.2.2.2.2.2.2.2.2.2.2.2.2.2.2.2.2.2.2.2.2.2.2.2.2.2.2.2.2.2.2.2.2.2.2.2.2.2.2.1
theorem CrP.ne {o : Nat → Nat} {t : Nat} {h : AH} {x : Nat} {τ : Nat → Int} {υ : Nat → Int64} {e : Nat → Nat} {el : Nat → Nat → Nat} {lw : Nat} (t_ : CrP o t h x τ υ e el lw) : ∀ j k : Nat, j < 5 → k < 5 → hK h (e j) = 108 → e j = e k → j = k := t_.2.2.2.2.2.2.2.2.2.2.2.2.2.2.2.2.2.2.2.2.2.2.2.2.2.2.2.2.2.2.2.2.2.2.2.2.2.2.2.2.2.1
theorem CrP.os {o : Nat → Nat} {t : Nat} {h : AH} {x : Nat} {τ : Nat → Int} {υ : Nat → Int64} {e : Nat → Nat} {el : Nat → Nat → Nat} {lw : Nat} (t_ : CrP o t h x τ υ e el lw) : ∀ i : Nat, (i : Int) < τ 0 → o (el 0 i) = t ∧ (el 0 i < x ∨ x + 267 < el 0 i) := t_.2.2.2.2.2.2.2.2.2.2.2.2.2.2.2.2.2.2.2.2.2.2.2.2.2.2.2.2.2.2.2.2.2.2.2.2.2.2.2.2.2.2.1
theorem CrP.ns {o : Nat → Nat} {t : Nat} {h : AH} {x : Nat} {τ : Nat → Int} {υ : Nat → Int64} {e : Nat → Nat} {el : Nat → Nat → Nat} {lw : Nat} (t_ : CrP o t h x τ υ e el lw) : ∀ i j : Nat, (i : Int) < τ 0 → (j : Int) < τ 0 → el 0 i = el 0 j → i = j := t_.2.2.2.2.2.2.2.2.2.2.2.2.2.2.2.2.2.2.2.2.2.2.2.2.2.2.2.2.2.2.2.2.2.2.2.2.2.2.2.2.2.2.2.1
theorem CrP.zz {o : Nat → Nat} {t : Nat} {h : AH} {x : Nat} {τ : Nat → Int} {υ : Nat → Int64} {e : Nat → Nat} {el : Nat → Nat → Nat} {lw : Nat} (t_ : CrP o t h x τ υ e el lw) : ∀ s : Nat, τ 0 ≤ (s : Int) → s < 4 → υ s = 0 ∧ υ (4 + s) = 0 := t_.2.2.2.2.2.2.2.2.2.2.2.2.2.2.2.2.2.2.2.2.2.2.2.2.2.2.2.2.2.2.2.2.2.2.2.2.2.2.2.2.2.2.2.2
