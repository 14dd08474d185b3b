/-! THE CLASS's undo, save, restore; ArrayDeque.clear -/
section
set_option maxRecDepth 100000
variable {G : zG} {h h' h1 : zH} {O U V : Nat → Prop} {x st tt nn e a ar hd i j : Nat} {X A B C : List zA} {w : sW} {its : List Nat} {f : Nat → Option Nat}
theorem zSep.drp : ∀ {A : List zA} {U : Nat → Prop}, zSep (A ++ (B ++ C)) h U → zSep (A ++ C) h U := sorry
theorem w_dqCirc (hi : i < 17) (hj : j < 17) (har : h ar = some (104, qtab f)) : zK G mJ4_circularClear 1 0 [.ref ar, .int (nI i), .int (nI j)] h (zO fun o h' => o = none ∧ ∃ f', h' = zup h ar (104, qtab f') ∧ h' ar = some (104, qtab f')) := sorry
theorem w_dqClear (hQ : cDQ h a ar hd its) : zK G mJ4_clear 2 0 [.ref a] h (zO fun o h' => o = none ∧ cDQ h' a ar 0 [] ∧ zfr (cDf a ar) h h') := sorry
theorem zSep_save {sv : Option Nat} {hq ib lb st' : Nat} {SH : List Nat} {s : sS} {v : cWr} {P : zA} (R1 : zSep (iS st' s :: P :: iD hq SH :: (iH SH v.1 ++ (iB ib v.2.2.2.1 :: iB lb v.2.2.1 :: (iV sv v.2.1 ++ [])))) h U) : zSep (P :: iD hq SH :: (iH SH v.1 ++ (iB ib v.2.2.2.1 :: iB lb v.2.2.1 :: (iV (some st') (some s) ++ [])))) h U := sorry
theorem c_save (hk : zkn G h) (hZ : zkI G) (hG : cReg x 0 [] w h U) (hJ : sJ tt nn w.1) (hN : nn ≤ 10000) : zK G mX1_save 40 78 [.ref x] h (cOut x U h [] (0, nI w.1.2.1.length, sSave w)) := sorry
theorem c_undo (hG : cReg x 0 [] w h U) : zK G mX1_undo 40 2 [.ref x] h (cOut x U h [eSta] (sUndo w)) := sorry
theorem c_restore (hk : zkn G h) (hZ : zkI G) (hG : cReg x 0 [] w h U) (hJ : ∀ s, w.2.2.1 = some s → sJ tt nn s) (hN : nn ≤ 10000) : zK G mX1_restore 40 78 [.ref x] h (cOut x U h [eSta] (sRestore w)) := sorry
end

