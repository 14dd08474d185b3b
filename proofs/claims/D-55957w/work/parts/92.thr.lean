/-! the throw sites (printed by gen/thr.py) -/
section
set_option maxRecDepth 100000
theorem zT.mk {own cls : String} {ik ic : Nat} {names : List String} (h1 : Bundle.fit cls = true) (h2 : ∀ n ∈ names, Bundle.fit n = true) (h3 : Cond.classLink own ik cls ∈ lw_tbl) (h4 : Cond.initialized cls ∈ lw_tbl) (h5 : ∀ w ∈ Bundle.ownAtoms0 own ic cls names, vx_no w = true → w ∈ lw_tbl ∧ zgood w = true ∧ vx_ot w = true) (h6 : names.length ≤ 6) : zT own ik ic cls names := sorry
theorem zT_arg : zT "ClaimRegistry" 40 42 "java/lang/IllegalArgumentException" ["java/lang/RuntimeException", "java/lang/Exception"] := sorry
theorem zT_sta : zT "ClaimRegistry" 43 45 "java/lang/IllegalStateException" ["java/lang/RuntimeException", "java/lang/Exception"] := sorry
theorem zT_elt : zT "ClaimRegistry" 46 48 "java/util/NoSuchElementException" ["java/lang/RuntimeException", "java/lang/Exception"] := sorry
theorem zT_idx : zT "ClaimRegistry" 49 51 "java/lang/IndexOutOfBoundsException" ["java/lang/RuntimeException", "java/lang/Exception"] := sorry
end

