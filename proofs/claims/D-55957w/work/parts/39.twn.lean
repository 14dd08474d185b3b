/-! THE REFERENCE's questions: pairs and chains -/
section
set_option maxRecDepth 100000
variable {G : zG} {h0 : zH} {a : tA} {T : tS} {tt nn n : Nat}
theorem nI_or {x y : Nat} : nI x ||| nI y = nI (x ||| y) := sorry
theorem bt_all : ∀ x : Fin 256, ∀ i : Fin 8, (nI x.1 >>> (nI i.1 &&& 31)) &&& nI 1 = nI (if x.1.testBit i.1 = true then 1 else 0) := sorry
theorem bt {x i : Nat} (hx : x < 256) (hi : i < 8) : (nI x >>> (nI i &&& 31)) &&& nI 1 = nI (if x.testBit i = true then 1 else 0) := sorry
theorem sh_all : ∀ i : Fin 8, nI 1 <<< (nI i.1 &&& 31) = nI (2 ^ i.1) := sorry
theorem sh {i : Nat} (hi : i < 8) : nI 1 <<< (nI i &&& 31) = nI (2 ^ i) := sorry
theorem pow8 {i : Nat} (hi : i < 8) : 2 ^ i < 256 := sorry
/-- who is owed by a set, by the first k claims -/
def sCr (s : sS) (x : Nat) : Nat → Nat
  | 0 => 0
  | k + 1 => if x.testBit (sAt s.2.1 k 1) = true then sCr s x k ||| 2 ^ sAt s.2.1 k 2 else sCr s x k
def sStep (s : sS) (x : Nat) : Nat := sCr s x s.2.1.length
def sNth (s : sS) (x : Nat) : Nat → Nat
  | 0 => x
  | k + 1 => sStep s (sNth s x k)
def sRch (s : sS) (x : Nat) : Nat → Nat
  | 0 => 0
  | k + 1 => sRch s x k ||| sNth s x (k + 1)
theorem sCr_lt {s : sS} (hI : sI tt nn n s) {x k : Nat} (hk : k ≤ s.2.1.length) : sCr s x k < 256 := sorry
theorem sNth_lt {s : sS} (hI : sI tt nn n s) {x k : Nat} (hx : x < 256) : sNth s x k < 256 := sorry
theorem sRch_lt {s : sS} (hI : sI tt nn n s) {x k : Nat} (hx : x < 256) : sRch s x k < 256 := sorry
theorem w_owedBySet (hD : tD a) {s : sS} (hR : tR T.2.1 0 s) (hI : sI tt nn n s) {x : Nat} (hx : x < 256) : zK G mX3_owedBySet 2 0 [.ref a.1, .int (nI x)] (tH h0 a T) (tQ h0 a fun v T' => v = some (.int (nI (sStep s x))) ∧ T' = T) := sorry
def sSeek (s : sS) (x t : Nat) : Nat → Nat → Option Nat
  | 0, _ => none
  | m + 1, k => if (sNth s x (k + 1)).testBit t = true then some (k + 1) else sSeek s x t m (k + 1)
def qChain (s : sS) (f t : Int32) : Nat × Int32 := if sIn f (nI 0) (nI 7) = true ∧ sIn t (nI 0) (nI 7) = true then (match sSeek s (2 ^ iN f) (iN t) 8 0 with | none => (2, nI 0) | some k => (0, nI k)) else (1, nI 0)
theorem w_chainLength (hD : tD a) {w : sW} (hW : tW T w) (hI : sI tt nn n w.1) {f t : Int32} : zK G mX3_chainLength 3 0 [.ref a.1, .int f, .int t] (tH h0 a T) (tAns h0 a w (qChain w.1 f t)) := sorry
theorem w_chainLengthByRounds (hD : tD a) {w : sW} (hW : tW T w) (hI : sI tt nn n w.1) {f t : Int32} : zK G mX3_chainLengthByRounds 4 0 [.ref a.1, .int f, .int t] (tH h0 a T) (tAns h0 a w (qChain w.1 f t)) := sorry
theorem w_reached (hD : tD a) {s : sS} (hR : tR T.2.1 0 s) (hI : sI tt nn n s) {p : Nat} (hp : p < 8) : zK G mX3_reached 3 0 [.ref a.1, .int (nI p)] (tH h0 a T) (tQ h0 a fun v T' => v = some (.int (nI (sRch s (2 ^ p) 8))) ∧ T' = T) := sorry
def qReach (s : sS) (p : Int32) : Nat × Int32 := if sIn p (nI 0) (nI 7) = true then (0, nI (sRch s (2 ^ iN p) 8)) else (1, nI 0)
theorem w_reachableFrom (hD : tD a) {w : sW} (hW : tW T w) (hI : sI tt nn n w.1) {p : Int32} : zK G mX3_reachableFrom 4 0 [.ref a.1, .int p] (tH h0 a T) (tAns h0 a w (qReach w.1 p)) := sorry
def sCyc (s : sS) : Nat → Nat := sUp fun k => if (sRch s (2 ^ k) 8).testBit k = true then 1 else 0
theorem sCyc_le {s : sS} {k : Nat} : sCyc s k ≤ k := sorry
def qCycle (s : sS) : Nat × Int32 := (0, nI (if sCyc s 8 = 0 then 0 else 1))
theorem w_hasCycle (hD : tD a) {w : sW} (hW : tW T w) (hI : sI tt nn n w.1) : zK G mX3_hasCycle 4 0 [.ref a.1] (tH h0 a T) (tAns h0 a w (qCycle w.1)) := sorry
end

