/-! THE LAW'S END: what was written lies in new cells only -/
section END
variable {p : Program} {l : Launch} {e : Env} {R : Room} {s : State} {m : MethodId} {args : Array Value} {below : List Frame} {meth : Method} {c : Code} {H : Heap} {locs : List Loc} {cells slots : Nat} {Q : State → Prop}
theorem sbn_fresh {t : State} (X : s.sameButNew t locs cells slots) (h : ∀ q ∈ locs, s.heap.size ≤ q.base) : s.sameButNew t [] cells slots := by
  obtain ⟨a1, a2, a3, a4, a5, a6⟩ := X
  refine ⟨a1, a2, a3, a4, a5, fun a cl ha => ?_⟩
  obtain ⟨c', b1, b2, b3, b4⟩ := a6 a cl ha
  refine ⟨c', b1, b2, b3, fun i _ => b4 i fun hm => ?_⟩
  have h1 : a < s.heap.size := (Array.getElem?_eq_some_iff.mp ha).1
  have h2 : s.heap.size ≤ a := h _ hm
  exact absurd h1 (Nat.not_lt.mpr h2)
theorem lw_fresh {g : JFrame} (h : ∀ q ∈ locs, s.heap.size ≤ q.base) (kk : W p l e R s m args below meth c H [] cells slots Q g) : W p l e R s m args below meth c H locs cells slots Q g := fun T hT X => kk T hT { X with same := sbn_fresh X.same h }
end END
