theorem pure_main (L : Nat) (hL : L ≤ 256) (xs : Nat → Int32) : PureOK L xs := by
  obtain ⟨S1, S2, h1, h2, h3, h4, h5, h6, h7⟩ := pure_start
  exact ⟨FU, 200, S1, S2, h1, h2, h3, h4, h5, h6, LAW hL 200 0 0 S2 h7 (by decide) (Or.inr rfl) (by omega)⟩
theorem whole_start {p : Program} {e : Env} {s : State} {m : MethodId} {below : List Frame} {meth : Method} {c : Code} (l : Launch) {b L : Nat} {xs : Nat → Int32} (hL : L ≤ 256) (C0 : lw_At p s m meth c b L xs) : W p l e room_1 s m #[Value.ref b] below meth c s.heap [] 0 0 (lw_Z below #[Value.ref b] s) (entryFrame m ([Value.ref b] : List Value).toArray 4) := whole_of l (pure_main L hL xs) C0
