/-! what the methods compute, as plain functions -/
def scI (v pc : Int32) : Int32 := (v * pc + 50) / 100
def w0 (k : Nat) : Int32 := if k / 6 = k % 6 then 0 else 1
def est0 (w : Nat → Int32) (k : Nat) : UInt64 := FP.i2d (w k)
def fitsB (f : Nat → Int32) (pc : Int32) : Nat → Bool
  | 0 => true
  | k + 1 => fitsB f pc k && (if 9999 < scI (f k) pc then false else true)
def reI (w : Nat → Int32) (fr : Nat) (r : Int32) : Nat → Int32
  | 0 => r
  | k + 1 => reI w fr r k ||| (if 0 < w (6 * fr + k) then 1 <<< (nI k &&& 31) else 0)
def exR (w : Nat → Int32) (n : Nat) (S : Int32) : Nat → Int32
  | 0 => 0
  | i + 1 => if hasB S i = true then reI w i (exR w n S i) n else exR w n S i
def exS (f : Nat → Int32) (S : Int32) : Nat → Int32
  | 0 => 0
  | i + 1 => exS f S i + (if hasB S i = true then f i else 0)
def exT (f : Nat → Int32) (R s0 : Int32) : Nat → Int32
  | 0 => s0
  | i + 1 => exT f R s0 i - (if hasB R i = true then f i else 0)
def excX (fi fo fw : Nat → Int32) (n : Nat) (S : Int32) : Int32 := exT fo (exR fw n S n) (exS fi S n) n
def crF (E : Int32 → Int32) : Nat → Nat → Int32
  | 0, _ => -1
  | f + 1, t => if 0 < E (nI t) then nI t else crF E f (t + 1)
def crowdX (fi fo fw : Nat → Int32) (n : Nat) : Int32 := crF (excX fi fo fw n) (2 ^ n - 1) 1
def imbX (fi fo : Nat → Int32) : Int32 := bx_sum fi 6 - bx_sum fo 6
def possX (fi fo fw : Nat → Int32) (n : Nat) : Bool := decide (imbX fi fo = 0 ∧ crowdX fi fo fw n = -1)
theorem mix_0 {α : Type} (new old : Nat → α) (N : Nat) : ∀ k, k < N → old k = if k < 0 then new k else old k := fun k _ => (if_neg (Nat.not_lt_zero k)).symm
theorem mix_s {α : Type} {g new old : Nat → α} {N i : Nat} {x : α} (hx : x = new i) (hg : ∀ k, k < N → g k = if k < i then new k else old k) : ∀ k, k < N → (if k = i then x else g k) = if k < i + 1 then new k else old k := by
  intro k hk
  by_cases h : k = i
  · rw [if_pos h, if_pos (by omega), hx, h]
  · rw [if_neg h, hg k hk]
    by_cases h2 : k < i
    · rw [if_pos h2, if_pos (by omega)]
    · rw [if_neg h2, if_neg (by omega)]
theorem mix_e {α : Type} {g new old : Nat → α} {N i : Nat} (hi : ¬ i < N) (hg : ∀ k, k < N → g k = if k < i then new k else old k) : ∀ k, k < N → g k = new k := fun k hk => by rw [hg k hk, if_pos (by omega)]
theorem w0_at {i j : Nat} (hj : j < 6) : (if i = j then (0 : Int32) else 1) = w0 (6 * i + j) := by
  unfold w0
  rw [show (6 * i + j) / 6 = i by omega, show (6 * i + j) % 6 = j by omega]
theorem okArm_nat {k n : Nat} (h : k < n) (hn : n ≤ 6) : decide (0 ≤ nI k ∧ nI k ≤ nI n - 1) = true := by
  rw [decide_eq_true_eq]
  refine ⟨nI_pos' (by omega), ?_⟩
  rw [show nI n - 1 = nI (n - 1) from pk_sub (a := n) (b := 1) (by omega)]
  exact nI_le (by omega) (by omega)
/-! doubles -/
def dsum (g : Nat → UInt64) : Nat → UInt64
  | 0 => FP.dconst0
  | k + 1 => FP.dadd (dsum g k) (g k)
def rowG (e : Nat → UInt64) (a b : Nat) : UInt64 := e (6 * a + b)
def colG (e : Nat → UInt64) (a b : Nat) : UInt64 := e (6 * b + a)
def far (x y : UInt64) : UInt64 := if dgt x y = true then FP.dsub x y else FP.dsub y x
def okSum (g : Nat → UInt64) (n : Nat) : Prop := ∀ k, k < n → vf_n64 (FP.dadd (dsum g k) (g k))
def misF (fi fo : Nat → Int32) (n : Nat) (e : Nat → UInt64) : Nat → UInt64
  | 0 => FP.dconst0
  | a + 1 => if dgt (far (dsum (colG e a) n) (FP.i2d (fo a))) (if dgt (far (dsum (rowG e a) n) (FP.i2d (fi a))) (misF fi fo n e a) = true then far (dsum (rowG e a) n) (FP.i2d (fi a)) else misF fi fo n e a) = true then far (dsum (colG e a) n) (FP.i2d (fo a)) else (if dgt (far (dsum (rowG e a) n) (FP.i2d (fi a))) (misF fi fo n e a) = true then far (dsum (rowG e a) n) (FP.i2d (fi a)) else misF fi fo n e a)
def okMis (fi fo : Nat → Int32) (n : Nat) (e : Nat → UInt64) : Prop := ∀ a, a < n → okSum (rowG e a) n ∧ vf_n64 (far (dsum (rowG e a) n) (FP.i2d (fi a))) ∧ okSum (colG e a) n ∧ vf_n64 (far (dsum (colG e a) n) (FP.i2d (fo a)))
def mulRow (e : Nat → UInt64) (a : Nat) (f : UInt64) (m k : Nat) : UInt64 := if 6 * a ≤ k ∧ k < 6 * a + m then FP.dmul (e k) f else e k
def mulCol (e : Nat → UInt64) (a : Nat) (f : UInt64) (m k : Nat) : UInt64 := if k % 6 = a ∧ k / 6 < m then FP.dmul (e k) f else e k
def rowF (fi : Nat → Int32) (n : Nat) (e : Nat → UInt64) (a k : Nat) : UInt64 := if dgt (dsum (rowG e a) n) FP.dconst0 = true then mulRow e a (FP.ddiv (FP.i2d (fi a)) (dsum (rowG e a) n)) n k else e k
def colF (fo : Nat → Int32) (n : Nat) (e : Nat → UInt64) (a k : Nat) : UInt64 := if dgt (dsum (colG e a) n) FP.dconst0 = true then mulCol e a (FP.ddiv (FP.i2d (fo a)) (dsum (colG e a) n)) n k else e k
def rowsF (fi : Nat → Int32) (n : Nat) (e : Nat → UInt64) : Nat → Nat → UInt64
  | 0 => e
  | a + 1 => rowF fi n (rowsF fi n e a) a
def colsF (fo : Nat → Int32) (n : Nat) (e : Nat → UInt64) : Nat → Nat → UInt64
  | 0 => e
  | a + 1 => colF fo n (colsF fo n e a) a
def roundF (fi fo : Nat → Int32) (n : Nat) (e : Nat → UInt64) : Nat → UInt64 := colsF fo n (rowsF fi n e n) n
def okRow (fi : Nat → Int32) (n : Nat) (e : Nat → UInt64) (a : Nat) : Prop := okSum (rowG e a) n ∧ (dgt (dsum (rowG e a) n) FP.dconst0 = true → vf_n64 (FP.ddiv (FP.i2d (fi a)) (dsum (rowG e a) n)) ∧ ∀ b, b < n → vf_n64 (FP.dmul (e (6 * a + b)) (FP.ddiv (FP.i2d (fi a)) (dsum (rowG e a) n))))
def okCol (fo : Nat → Int32) (n : Nat) (e : Nat → UInt64) (a : Nat) : Prop := okSum (colG e a) n ∧ (dgt (dsum (colG e a) n) FP.dconst0 = true → vf_n64 (FP.ddiv (FP.i2d (fo a)) (dsum (colG e a) n)) ∧ ∀ b, b < n → vf_n64 (FP.dmul (e (6 * b + a)) (FP.ddiv (FP.i2d (fo a)) (dsum (colG e a) n))))
def okRound (fi fo : Nat → Int32) (n : Nat) (e : Nat → UInt64) : Prop := (∀ a, a < n → okRow fi n (rowsF fi n e a) a) ∧ ∀ a, a < n → okCol fo n (colsF fo n (rowsF fi n e n) a) a
def iterF (fi fo : Nat → Int32) (n : Nat) (e : Nat → UInt64) : Nat → Nat → UInt64
  | 0 => e
  | k + 1 => roundF fi fo n (iterF fi fo n e k)
def d1000 : UInt64 := 4652007308841189376
def fitN (fi fo : Nat → Int32) (n : Nat) (bound : UInt64) : Nat → (Nat → UInt64) → Nat
  | 0, _ => 0
  | k + 1, e => if dgt (misF fi fo n e n) bound = true then fitN fi fo n bound k (roundF fi fo n e) + 1 else 0
def shareX (n : Nat) (e : Nat → UInt64) (k t : Nat) : UInt64 := if dgt (dsum (rowG e k) n) FP.dconst0 = true then FP.ddiv (e (6 * k + t)) (dsum (rowG e k) n) else FP.dconst0
def buI (e : Nat → UInt64) (i : Nat) (p : Int32 × UInt64) : Nat → Int32 × UInt64
  | 0 => p
  | j + 1 => (if dgt (e (6 * i + j)) (buI e i p j).2 = true then nI (10 * i + j) else (buI e i p j).1, if dgt (e (6 * i + j)) (buI e i p j).2 = true then e (6 * i + j) else (buI e i p j).2)
def buO (n : Nat) (e : Nat → UInt64) : Nat → Int32 × UInt64
  | 0 => (-1, FP.dconst0)
  | i + 1 => buI e i (buO n e i) n
theorem mulRow_0 (e : Nat → UInt64) (a : Nat) (f : UInt64) (N : Nat) : ∀ k, k < N → e k = mulRow e a f 0 k := fun k _ => (if_neg (by omega)).symm
theorem mulRow_x {e : Nat → UInt64} {a : Nat} {f : UInt64} {m : Nat} : mulRow e a f m (6 * a + m) = e (6 * a + m) := if_neg (by omega)
theorem mulRow_s {e g : Nat → UInt64} {a : Nat} {f : UInt64} {m N : Nat} (hm : 6 * a + m < N) (hg : ∀ k, k < N → g k = mulRow e a f m k) : ∀ k, k < N → (if k = 6 * a + m then FP.dmul (g (6 * a + m)) f else g k) = mulRow e a f (m + 1) k := by
  intro k hk
  by_cases h : k = 6 * a + m
  · rw [if_pos h, hg _ hm, mulRow_x, h, mulRow, if_pos (by omega)]
  · rw [if_neg h, hg k hk]
    unfold mulRow
    by_cases h2 : 6 * a ≤ k ∧ k < 6 * a + m
    · rw [if_pos h2, if_pos (by omega)]
    · rw [if_neg h2, if_neg (by omega)]
theorem mulCol_0 (e : Nat → UInt64) (a : Nat) (f : UInt64) (N : Nat) : ∀ k, k < N → e k = mulCol e a f 0 k := fun k _ => (if_neg (by omega)).symm
theorem mulCol_x {e : Nat → UInt64} {a : Nat} {f : UInt64} {m : Nat} (ha : a < 6) : mulCol e a f m (6 * m + a) = e (6 * m + a) := if_neg (by omega)
theorem mulCol_s {e g : Nat → UInt64} {a : Nat} {f : UInt64} {m N : Nat} (ha : a < 6) (hm : 6 * m + a < N) (hg : ∀ k, k < N → g k = mulCol e a f m k) : ∀ k, k < N → (if k = 6 * m + a then FP.dmul (g (6 * m + a)) f else g k) = mulCol e a f (m + 1) k := by
  intro k hk
  by_cases h : k = 6 * m + a
  · rw [if_pos h, hg _ hm, mulCol_x ha, h, mulCol, if_pos (by omega)]
  · rw [if_neg h, hg k hk]
    unfold mulCol
    by_cases h2 : k % 6 = a ∧ k / 6 < m
    · rw [if_pos h2, if_pos (by omega)]
    · rw [if_neg h2, if_neg (by omega)]
theorem nI_d1 (d : Int32) (i : Nat) : d + nI i + 1 = d + nI (i + 1) := by
  rw [← nI_1, Int32.add_assoc]
theorem nI_d0 (d : Int32) : d = d + nI 0 := by
  rw [nI_0, Int32.add_zero]
