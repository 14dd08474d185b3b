/-! keywords: prefixes, membership, the list's iterator -/
section
set_option maxRecDepth 100000
variable {G : zG} {h h' H : zH} {a n kw ka it c w c2 w2 i : Nat} {l q s : List Nat}
def kW : List (List Nat) := [[97, 100, 100], [115, 105, 103, 110], [99, 111, 117, 110, 116, 101, 114, 115, 105, 103, 110], [115, 101, 116, 116, 108, 101], [116, 105, 99, 107], [97, 117, 100, 105, 116], [114, 97, 116, 101]]
def kAt (i : Nat) : List Nat := kW.getD i []
def kPre (q : List Nat) : Bool := kW.any fun k => q.isPrefixOf k
theorem kAt_lit : ∀ i : Fin 7, zlt[10 + i.1]? = some (kAt i.1) := sorry
theorem kPre_iff : kPre q = true ↔ ∃ i, i < 7 ∧ q.isPrefixOf (kAt i) = true := sorry
theorem kIn_iff : q ∈ kW ↔ ∃ i, i < 7 ∧ q = kAt i := sorry
theorem zkS.key (hS : zkS G) (hk : zkn G h) (hi : i < 7) : cStr h (zg_a G (110 + i)) (zg_a G (210 + i)) (kAt i) := sorry
theorem pre_app : ∀ {p r u : List Nat}, (p ++ r).isPrefixOf (p ++ u) = r.isPrefixOf u := sorry
theorem pre_len : ∀ {r u : List Nat}, r.isPrefixOf u = true → r.length ≤ u.length := sorry
theorem w_hasPre (k1 : cStr h c w l) (k2 : cStr h c2 w2 q) : zK G mX5_hasPrefix 6 0 [.ref c, .ref c2] h (zPu h (some (.int (nI (if q.isPrefixOf l = true then 1 else 0))))) := sorry
theorem cStr.inj (k : cStr h c w l) (k2 : cStr h c w2 s) : l = s := sorry
theorem w_objEq (k : cStr h c w l) (k2 : cStr h c2 w2 s) : zK G mJ26_equals 3 0 [.ref c, .ref c2] h (zPu h (some (.int (nI (if l = s then 1 else 0))))) := sorry
theorem w_kwHas (hk : zkn G h) (hS : zkS G) (k : cKw G h kw ka) (ks : cStr h c w q) : zK G mJ36_contains 5 0 [.ref kw, .ref c] h (zPu h (some (.int (nI (if q ∈ kW then 1 else 0))))) := sorry
end

