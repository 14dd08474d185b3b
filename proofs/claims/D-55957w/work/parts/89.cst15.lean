/-! the lambdas' bodies -/
section
set_option maxRecDepth 100000
variable {G : zG} {h : zH} {a : Nat} {c : sC} {p q w : Int32}
theorem w_lmWt (hc : h a = some (2, cCl c)) : zK G mX2_lambda_activeWeight_0 4 0 [.ref a] h (zPu h (some (.int (nI (c 3))))) := sorry
theorem w_lmHvy (hc : h a = some (2, cCl c)) : zK G mX1_lambda_heaviest_5 4 0 [.ref a] h (zPu h (some (.int (-nI (c 3))))) := sorry
theorem w_lmExp (hc : h a = some (2, cCl c)) : zK G mX1_expiryOf 4 0 [.ref a] h (zPu h (some (.int (nI (c 4))))) := sorry
theorem w_lmSig (hc : h a = some (2, cCl c)) : zK G mX1_lambda_signatures_0 4 0 [.int p, .ref a] h (zPu h (some (.int (nI (if decide (nI (c 6) - 1 = p) = true then 1 else 0))))) := sorry
theorem w_lmCos (hc : h a = some (2, cCl c)) : zK G mX1_lambda_countersignatures_1 4 0 [.int p, .ref a] h (zPu h (some (.int (nI (if decide (nI (c 7) - 1 = p) = true then 1 else 0))))) := sorry
theorem w_lmLim (hc : h a = some (2, cCl c)) : zK G mX1_lambda_expiringByComparison_10 4 0 [.int p, .ref a] h (zPu h (some (.int (nI (if decide (nI (c 4) ≤ p) = true then 1 else 0))))) := sorry
theorem w_lmBy (hc : h a = some (2, cCl c)) : zK G mX1_lambda_owedBy_2 4 0 [.int p, .ref a] h (zPu h (some (.int (if nI (c 1) = p then nI (c 3) else 0)))) := sorry
theorem w_lmTo (hc : h a = some (2, cCl c)) : zK G mX1_lambda_owedTo_3 4 0 [.int p, .ref a] h (zPu h (some (.int (if nI (c 2) = p then nI (c 3) else 0)))) := sorry
abbrev cSgn (c : sC) (p : Int32) : Int32 := if nI (c 2) = p then 1 else if nI (c 1) = p then -1 else 0
theorem w_signOf (hc : h a = some (2, cCl c)) : zK G mX1_signOf 3 0 [.ref a, .int p] h (zPu h (some (.int (cSgn c p)))) := sorry
theorem w_lmBal (hc : h a = some (2, cCl c)) : zK G mX1_lambda_balanceOf_4 4 0 [.int p, .ref a] h (zPu h (some (.int (cSgn c p * nI (c 3))))) := sorry
theorem w_lmOwed (hc : h a = some (2, cCl c)) : zK G mX1_lambda_isOwed_6 4 0 [.int p, .int q, .ref a] h (zPu h (some (.int (nI (if decide (nI (c 1) = p ∧ nI (c 2) = q) = true then 1 else 0))))) := sorry
theorem w_lmPr7 (hc : h a = some (2, cCl c)) : zK G mX1_lambda_pairBalance_7 4 0 [.int p, .int q, .ref a] h (zPu h (some (.int (if nI (c 1) = p ∧ nI (c 2) = q then nI (c 3) else 0)))) := sorry
theorem w_lmPr8 (hc : h a = some (2, cCl c)) : zK G mX1_lambda_pairBalance_8 4 0 [.int p, .int q, .ref a] h (zPu h (some (.int (if nI (c 1) = p ∧ nI (c 2) = q then nI (c 3) else 0)))) := sorry
/-- c stands ahead of e in the order by expiry -/
abbrev cLt (c e : sC) : Prop := c 4 < e 4 ∨ c 4 = e 4 ∧ (e 3 < c 3 ∨ e 3 = c 3 ∧ c 0 < e 0)
theorem w_expB {b : Nat} {e : sC} (hc : h a = some (2, cCl c)) (he : h b = some (2, cCl e)) (hb : (c 0 < 2 ^ 30 ∧ c 3 < 2 ^ 30 ∧ c 4 < 2 ^ 30) ∧ (e 0 < 2 ^ 30 ∧ e 3 < 2 ^ 30 ∧ e 4 < 2 ^ 30)) : zK G mX1_expiresBefore 3 0 [.ref a, .ref b] h (zPu h (some (.int (nI (if decide (cLt c e) = true then 1 else 0))))) := sorry
theorem w_lmRank {b : Nat} {e : sC} (he : h b = some (2, cCl e)) (hc : h a = some (2, cCl c)) (hb : (c 0 < 2 ^ 30 ∧ c 3 < 2 ^ 30 ∧ c 4 < 2 ^ 30) ∧ (e 0 < 2 ^ 30 ∧ e 3 < 2 ^ 30 ∧ e 4 < 2 ^ 30)) : zK G mX1_lambda_expiryRank_9 4 0 [.ref b, .ref a] h (zPu h (some (.int (nI (if decide (cLt c e) = true then 1 else 0))))) := sorry
end

