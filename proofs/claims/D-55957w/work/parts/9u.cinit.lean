/-! THE CLASS's constructor (printed by mk9u.py) -/
section
set_option maxRecDepth 100000
variable {G : zG} {h h' : zH} {x : Nat} {L : List zA} {P : zA} {X U : Nat → Prop}
theorem zSep.add' (k : zSep L h U) (z : zfr X h h') (n : ∀ b, U b → h b ≠ none → ¬ X b) (p : P h' (fun b => h b = none ∧ h' b ≠ none)) (s : zStb P) : zSep (P :: L) h' (zext U h) := sorry
theorem w_newState {st : Nat} (hst : h st = some (1, [.null, .null, .null, .null, .int 0, .int 0, .int 0, .int 0, .int 0, .long 0, .long 0, .long 0])) : zK G mX2_init 6 14 [.ref st] h (zO fun o h' => o = none ∧ cS h' (fun b => b = st ∨ h b = none) st (sZero, [], [], []) ∧ zfr (fun b => b = st) h h') := sorry
theorem c_init (hx : h x = some (0, [.null, .null, .null, .null, .null, .int 0, .int 0, .int 0])) : zK G mX1_init 8 40 [.ref x] h (zO fun o h' => o = none ∧ cReg x 0 [] sW0 h' (fun b => b = x ∨ h b = none) ∧ zfr (fun b => b = x) h h') := sorry
end

