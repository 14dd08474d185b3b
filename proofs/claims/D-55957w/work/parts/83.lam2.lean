/-! LAMBDAS: what is computed of the thirteen shapes (printed by gen/lam.py) -/
section
set_option maxRecDepth 100000
theorem lk0 : lmK ls0 "ClaimRegistry$State" [43, 184, 0, 17, 172] .int 17 14 16 13 [] = true := by decide +kernel
theorem lk1 : lmK ls1 "ClaimRegistry" [42, 180, 0, 15, 43, 184, 0, 23, 172] .boolean 23 19 22 18 [(15, 14, "arg$1", "I")] = true := by decide +kernel
theorem lk2 : lmK ls2 "ClaimRegistry" [42, 180, 0, 15, 43, 184, 0, 23, 172] .int 23 19 22 18 [(15, 14, "arg$1", "I")] = true := by decide +kernel
theorem lk3 : lmK ls3 "ClaimRegistry" [42, 180, 0, 15, 43, 184, 0, 23, 172] .boolean 23 19 22 18 [(15, 14, "arg$1", "I")] = true := by decide +kernel
theorem lk4 : lmK ls4 "ClaimRegistry" [42, 180, 0, 15, 43, 184, 0, 23, 172] .boolean 23 19 22 18 [(15, 14, "arg$1", "I")] = true := by decide +kernel
theorem lk5 : lmK ls5 "ClaimRegistry" [42, 180, 0, 15, 43, 184, 0, 23, 172] .int 23 19 22 18 [(15, 14, "arg$1", "I")] = true := by decide +kernel
theorem lk6 : lmK ls6 "ClaimRegistry" [42, 180, 0, 15, 43, 184, 0, 23, 172] .int 23 19 22 18 [(15, 14, "arg$1", "I")] = true := by decide +kernel
theorem lk7 : lmK ls7 "ClaimRegistry" [43, 184, 0, 17, 172] .int 17 14 16 13 [] = true := by decide +kernel
theorem lk8 : lmK ls8 "ClaimRegistry" [43, 184, 0, 17, 172] .int 17 14 16 13 [] = true := by decide +kernel
theorem lk9 : lmK ls9 "ClaimRegistry" [42, 180, 0, 16, 42, 180, 0, 18, 43, 184, 0, 26, 172] .boolean 26 22 25 21 [(16, 15, "arg$1", "I"), (18, 17, "arg$2", "I")] = true := by decide +kernel
theorem lk10 : lmK ls10 "ClaimRegistry" [42, 180, 0, 16, 42, 180, 0, 18, 43, 184, 0, 26, 172] .int 26 22 25 21 [(16, 15, "arg$1", "I"), (18, 17, "arg$2", "I")] = true := by decide +kernel
theorem lk11 : lmK ls11 "ClaimRegistry" [42, 180, 0, 16, 42, 180, 0, 18, 43, 184, 0, 26, 172] .int 26 22 25 21 [(16, 15, "arg$1", "I"), (18, 17, "arg$2", "I")] = true := by decide +kernel
theorem lk12 : lmK ls12 "ClaimRegistry" [42, 180, 0, 15, 43, 184, 0, 23, 172] .boolean 23 19 22 18 [(15, 14, "arg$1", "LClaimRegistry$Claim;")] = true := by decide +kernel
end
