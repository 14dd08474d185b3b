/-! LAMBDAS: the thirteen sites (printed by gen/lam.py) -/
section
set_option maxRecDepth 100000
def lmS (iface nm : String) (rt : FieldType) (cap : List FieldType) (ic inm : String) : Lambda.Shape := { iface := iface, name := nm, sam := ⟨[.object "ClaimRegistry$Claim"], some rt⟩, captured := cap, kind := 6, implClass := ic, implName := inm, implDesc := ⟨cap ++ [.object "ClaimRegistry$Claim"], some rt⟩, implItf := false, inst := ⟨[.object "ClaimRegistry$Claim"], some rt⟩ }
abbrev ls0 : Lambda.Shape := lmS "ClaimRegistry$ClaimValue" "of" .int [] "ClaimRegistry$State" "lambda$activeWeight$0"
abbrev ls1 : Lambda.Shape := lmS "ClaimRegistry$ClaimTest" "matches" .boolean [.int] "ClaimRegistry" "lambda$expiringByComparison$10"
abbrev ls2 : Lambda.Shape := lmS "ClaimRegistry$ClaimValue" "of" .int [.int] "ClaimRegistry" "lambda$balanceOf$4"
abbrev ls3 : Lambda.Shape := lmS "ClaimRegistry$ClaimTest" "matches" .boolean [.int] "ClaimRegistry" "lambda$signatures$0"
abbrev ls4 : Lambda.Shape := lmS "ClaimRegistry$ClaimTest" "matches" .boolean [.int] "ClaimRegistry" "lambda$countersignatures$1"
abbrev ls5 : Lambda.Shape := lmS "ClaimRegistry$ClaimValue" "of" .int [.int] "ClaimRegistry" "lambda$owedBy$2"
abbrev ls6 : Lambda.Shape := lmS "ClaimRegistry$ClaimValue" "of" .int [.int] "ClaimRegistry" "lambda$owedTo$3"
abbrev ls7 : Lambda.Shape := lmS "ClaimRegistry$ClaimValue" "of" .int [] "ClaimRegistry" "lambda$heaviest$5"
abbrev ls8 : Lambda.Shape := lmS "ClaimRegistry$ClaimValue" "of" .int [] "ClaimRegistry" "expiryOf"
abbrev ls9 : Lambda.Shape := lmS "ClaimRegistry$ClaimTest" "matches" .boolean [.int, .int] "ClaimRegistry" "lambda$isOwed$6"
abbrev ls10 : Lambda.Shape := lmS "ClaimRegistry$ClaimValue" "of" .int [.int, .int] "ClaimRegistry" "lambda$pairBalance$7"
abbrev ls11 : Lambda.Shape := lmS "ClaimRegistry$ClaimValue" "of" .int [.int, .int] "ClaimRegistry" "lambda$pairBalance$8"
abbrev ls12 : Lambda.Shape := lmS "ClaimRegistry$ClaimTest" "matches" .boolean [.object "ClaimRegistry$Claim"] "ClaimRegistry" "lambda$expiryRank$9"
/-- the sites: the method, its pc and entry, the shape -/
def lsites : List (MethodName × Nat × Nat × Lambda.Shape) := [(⟨"ClaimRegistry$State", "activeWeight", "()J"⟩, 1, 175, ls0), (⟨"ClaimRegistry", "expiringByComparison", "(I)I"⟩, 23, 304, ls1), (⟨"ClaimRegistry", "balanceOf", "(I)I"⟩, 5, 215, ls2), (⟨"ClaimRegistry", "signatures", "(I)I"⟩, 5, 108, ls3), (⟨"ClaimRegistry", "countersignatures", "(I)I"⟩, 5, 116, ls4), (⟨"ClaimRegistry", "owedBy", "(I)I"⟩, 12, 206, ls5), (⟨"ClaimRegistry", "owedTo", "(I)I"⟩, 12, 214, ls6), (⟨"ClaimRegistry", "heaviest", "()I"⟩, 1, 226, ls7), (⟨"ClaimRegistry", "nextExpiry", "()I"⟩, 1, 230, ls8), (⟨"ClaimRegistry", "isOwed", "(II)Z"⟩, 6, 255, ls9), (⟨"ClaimRegistry", "pairBalance", "(II)I"⟩, 11, 266, ls10), (⟨"ClaimRegistry", "pairBalance", "(II)I"⟩, 26, 269, ls11), (⟨"ClaimRegistry", "expiryRank", "(I)I"⟩, 11, 301, ls12)]
/-- site i is linked to class number cK, its one object is at a where nothing is captured -/
def lSite (cK : ClassId) (a : Addr) (s : State) (x : MethodName × Nat × Nat × Lambda.Shape) : Prop :=
  ∃ (m : MethodId) (k : Class) (cf : ClassFile) (i0 p0 : Nat) (l : Linked), s.methodNamed? x.1 = some m ∧ s.vm.classes[m.cls]? = some k ∧ k.cf = some cf ∧ Lambda.shapeOf? cf x.2.2.1 = some x.2.2.2 ∧ (k.callSites.find? fun y => y.1 == m.idx && y.2.1 == x.2.1) = some (i0, p0, l) ∧
    Lambda.isMade { classPath := fun _ => none } s.vm m.cls x.2.2.2 cK = true ∧ s.lambdaCallable x.2.2.2 cK = true ∧ ((l = .constant a ∧ x.2.2.2.captured = []) ∨ (l = .makes cK ∧ x.2.2.2.captured ≠ []))
theorem lSite.moved {cK : ClassId} {a : Addr} {s U : State} {x : MethodName × Nat × Nat × Lambda.Shape} (hW : s.WarmedH U.vm) (h : lSite cK a s x) : lSite cK a U x := by
  obtain ⟨m, k, cf, i0, p0, l, hm, hk, hcf, hsh, hfind, hmade, hcall, hl⟩ := h
  have hcall' : U.lambdaCallable x.2.2.2 cK = true := by
    have hA := hW.alike
    simp only [State.lambdaCallable, hA.findClass, hA.assignable, hA.superclasses, hA.declaredIn] at hcall ⊢
    exact hcall
  obtain ⟨k', hk', he⟩ := hW.alike.2.2 _ _ hk
  have hm' : U.methodNamed? x.1 = some m := by
    have := State.methodNamed?_setVm (s := s) hW.alike x.1
    rw [hm] at this
    exact this
  exact ⟨m, k', cf, i0, p0, l, hm', hk', by rw [he]; exact hcf, hsh, by rw [he]; exact hfind, Lambda.isMade_warmer hW hmade, hcall', hl⟩
end
