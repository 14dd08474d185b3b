/-! THE REFERENCE's parser: a command, whole -/
section
set_option maxRecDepth 100000
variable {G : zG} {h0 : zH} {a : tA} {T : tS} {tt nn n : Nat}
set_option maxHeartbeats 8000000 in
theorem w_command (hD : tD a) {l : List Nat} {h n : Nat} (hP : tP T l h 0) (hn : T.1 14 = n) (hn6 : n ≤ 60) : zK G mX3_command 5 0 [.ref a.1] (tH h0 a T) (tQ h0 a (tCm T l n (pCmd l h))) := sorry
end

