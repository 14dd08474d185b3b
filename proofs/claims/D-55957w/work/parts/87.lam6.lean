/-! LAMBDAS: a call of each site's object (printed by gen/lam.py) -/
section
set_option maxRecDepth 100000
theorem lc0 : zCL "ClaimRegistry$State" 104 0 0 ⟨"ClaimRegistry$ClaimValue", "of", "(LClaimRegistry$Claim;)I"⟩ mX2_lambda_activeWeight_0 .int := sorry
theorem lc1 : zCL "ClaimRegistry$State" 98 1 1 ⟨"ClaimRegistry$ClaimTest", "matches", "(LClaimRegistry$Claim;)Z"⟩ mX1_lambda_expiringByComparison_10 .boolean := sorry
theorem lc2 : zCL "ClaimRegistry$State" 104 2 1 ⟨"ClaimRegistry$ClaimValue", "of", "(LClaimRegistry$Claim;)I"⟩ mX1_lambda_balanceOf_4 .int := sorry
theorem lc3 : zCL "ClaimRegistry$State" 98 3 1 ⟨"ClaimRegistry$ClaimTest", "matches", "(LClaimRegistry$Claim;)Z"⟩ mX1_lambda_signatures_0 .boolean := sorry
theorem lc4 : zCL "ClaimRegistry$State" 98 4 1 ⟨"ClaimRegistry$ClaimTest", "matches", "(LClaimRegistry$Claim;)Z"⟩ mX1_lambda_countersignatures_1 .boolean := sorry
theorem lc5 : zCL "ClaimRegistry$State" 104 5 1 ⟨"ClaimRegistry$ClaimValue", "of", "(LClaimRegistry$Claim;)I"⟩ mX1_lambda_owedBy_2 .int := sorry
theorem lc6 : zCL "ClaimRegistry$State" 104 6 1 ⟨"ClaimRegistry$ClaimValue", "of", "(LClaimRegistry$Claim;)I"⟩ mX1_lambda_owedTo_3 .int := sorry
theorem lc7 : zCL "ClaimRegistry$State" 104 7 0 ⟨"ClaimRegistry$ClaimValue", "of", "(LClaimRegistry$Claim;)I"⟩ mX1_lambda_heaviest_5 .int := sorry
theorem lc8 : zCL "ClaimRegistry$State" 104 8 0 ⟨"ClaimRegistry$ClaimValue", "of", "(LClaimRegistry$Claim;)I"⟩ mX1_expiryOf .int := sorry
theorem lc9 : zCL "ClaimRegistry$State" 98 9 2 ⟨"ClaimRegistry$ClaimTest", "matches", "(LClaimRegistry$Claim;)Z"⟩ mX1_lambda_isOwed_6 .boolean := sorry
theorem lc10 : zCL "ClaimRegistry$State" 104 10 2 ⟨"ClaimRegistry$ClaimValue", "of", "(LClaimRegistry$Claim;)I"⟩ mX1_lambda_pairBalance_7 .int := sorry
theorem lc11 : zCL "ClaimRegistry$State" 104 11 2 ⟨"ClaimRegistry$ClaimValue", "of", "(LClaimRegistry$Claim;)I"⟩ mX1_lambda_pairBalance_8 .int := sorry
theorem lc12 : zCL "ClaimRegistry$State" 98 12 1 ⟨"ClaimRegistry$ClaimTest", "matches", "(LClaimRegistry$Claim;)Z"⟩ mX1_lambda_expiryRank_9 .boolean := sorry
end

