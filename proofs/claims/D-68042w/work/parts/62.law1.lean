-- one call on both sides
def RS (C M : HS) (n : Nat) : Prop := n ≤ 512 ∧ gF C 1 1 = nI n ∧ gF M 200 2 = nI n ∧ (∀ j, j < n → gF M 201 j = gF C 2 j) ∧ (∃ a h g pr al pt d, RD C M a h g pr al pt d ∧ a ≤ 512) ∧ gF C 0 7 = gF M 200 3 ∧ gF C 0 8 = gF M 200 4
theorem READ {C M : HS} {n : Nat} (H : RS C M n) : ∃ r C' M', f_P_read FU C = some (r, C') ∧ f_M_read FU M = some (r, M') ∧ GC C C' ∧ GM M M' ∧ RS C' M' n := by
  obtain ⟨hn, h1, h2, hT, ⟨a, h, g, pr, al, pt, d, hR, ha⟩, -, -⟩ := H
  have hP := hR.2.1.1
  have hb := hR.1
  have k4 : ∀ i k, ¬ i = 0 → gF (sF (sF (sF (sF C 0 7 0) 0 8 (-1)) 0 2 0) 0 4 0) i k = gF C i k := fun i k hi => by rw [rFi hi, rFi hi, rFi hi, rFi hi]
  have lx : LexC (sF (sF (sF (sF (sF C 0 7 0) 0 8 (-1)) 0 2 0) 0 4 0) 1 2 0) (fun j => gF C 2 j) n 0 := ⟨by rw [rFk (by decide), k4 1 1 (by decide), h1], rFy, Nat.zero_le _, by omega, fun j hj => by rw [rFi (by decide), k4 2 j (by decide)]⟩
  obtain ⟨C5, e5, t5, f5⟩ := X_next lx
  have c5 : CV C5 (fun j => gF C 2 j) n 0 := ⟨f5.2.1.trans lx.1, Nat.zero_le _, by omega, fun j hj => ((f5.1 2 j (by decide)).1).trans (lx.2.2.2.2 j hj), t5⟩
  have L6 : LexM (sF (sF (sF (sF (sF (sF M 200 0 0) 200 3 0) 200 4 (-1)) 200 10 0) 200 19 0) 200 5 0) (fun j => gF C 2 j) n 0 := ⟨by rw [rFk (by decide), rFk (by decide), rFk (by decide), rFk (by decide), rFk (by decide), rFk (by decide), h2], rFy, Nat.zero_le _, by omega, fun j hj => by rw [rFi (by decide), rFi (by decide), rFi (by decide), rFi (by decide), rFi (by decide), rFi (by decide), hT j hj]⟩
  have P5 : PL C5 h g := PL.cg (C := sF (sF (sF (sF (sF C 0 7 0) 0 8 (-1)) 0 2 0) 0 4 0) 1 2 0) hP (fun x => (f5.1 3 x (by decide)).2.2) (fun x => (f5.1 5 x (by decide)).2.2) f5.2.2.2
  have q : ∀ k, gF C5 0 k = gF (sF (sF (sF (sF C 0 7 0) 0 8 (-1)) 0 2 0) 0 4 0) 0 k := fun k => by rw [(f5.1 0 k (by decide)).1, rFi (by decide)]
  have z : ZZ C5 (sF (sF (sF (sF (sF (sF M 200 0 0) 200 3 0) 200 4 (-1)) 200 10 0) 200 19 0) 200 5 0) := ⟨(q 7).trans rfl, rfl, (q 8).trans rfl, rfl⟩
  have R5 : RD C5 (sF (sF (sF (sF (sF (sF M 200 0 0) 200 3 0) 200 4 (-1)) 200 10 0) 200 19 0) 200 5 0) 0 h g (fun _ => 0) (fun _ => 0) (fun _ => 0) 0 := RD.zero P5 hb ((q 2).trans rfl) ((q 4).trans rfl) rfl rfl
  obtain ⟨r, C', M', y1, y2, y3, y4, y5⟩ := RLOOP (T := fun j => gF C 2 j) hn (n + 1) (by omega) c5 L6 z (Nat.zero_le _) R5 FU FU (by show _ ≤ 10000; omega) (by show _ ≤ 10000; omega)
  have gc : GC C C5 := ((((((GC.sF (by decide)).tr (GC.sF (by decide))).tr (GC.sF (by decide))).tr (GC.sF (by decide))).tr (GC.sF (by decide))).tr (GC.frx f5))
  have gm : GM M (sF (sF (sF (sF (sF (sF M 200 0 0) 200 3 0) 200 4 (-1)) 200 10 0) 200 19 0) 200 5 0) := (((((GM.sF ⟨⟨by decide, by decide, by decide⟩, by decide⟩).tr (GM.sF ⟨⟨by decide, by decide, by decide⟩, by decide⟩)).tr (GM.sF ⟨⟨by decide, by decide, by decide⟩, by decide⟩)).tr (GM.sF ⟨⟨by decide, by decide, by decide⟩, by decide⟩)).tr (GM.sF ⟨⟨by decide, by decide, by decide⟩, by decide⟩)).tr (GM.sF ⟨⟨by decide, by decide, by decide⟩, by decide⟩)
  refine ⟨r, C', M', ?_, ?_, gc.tr y3, gm.tr y4, hn, y5.2.2.2.1, (gm.tr y4).2.1.trans h2, fun j hj => ?_, y5.1, y5.2.1, y5.2.2.1⟩
  · unfold f_P_read f_X_begin
    rw [lt_e, lt_e, lt_e, lt_e, lt_e, e5, ob_s, ob_s, y1]
  · unfold f_M_read
    rw [lt_e, lt_e, lt_e, lt_e, lt_e, lt_e, y2]
  · rw [((gm.tr y4).1 201 j (Or.inr (Or.inl rfl))).1, hT j hj, y5.2.2.2.2 j hj]
/-- only thrown is written -/
theorem RS.thr {C M : HS} {n : Nat} (H : RS C M n) : RS C (sF M 200 0 0) n := by
  obtain ⟨hn, h1, h2, hT, ⟨a, h, g, pr, al, pt, d, hR, ha⟩, h7, h8⟩ := H
  exact ⟨hn, h1, h2, hT, ⟨a, h, g, pr, al, pt, d, hR.cg (fun _ _ _ => rfl) (fun _ _ _ => rfl) (fun _ _ _ => rfl) rfl (fun i k q => by rw [rF, if_neg (by omega)]) (fun _ _ _ => rfl), ha⟩, h7, h8⟩
theorem LOOK {C M : HS} {n : Nat} (H : RS C M n) (x : Int32) : ∃ r, f_P_look x C = some r ∧ f_M_look x M = some (r, sF M 200 0 0) := by
  obtain ⟨hn, h1, h2, hT, ⟨a, h, g, pr, al, pt, d, hR, ha⟩, h7, h8⟩ := H
  have c2 := hR.2.1.2.2.1
  have m19 := hR.2.1.2.2.2.1
  have c4 := hR.2.2.1
  have m10 := hR.2.2.2.1
  unfold f_P_look f_M_look
  rw [lt_e, rFk (show (2 : Nat) ≠ 0 by decide), rFk (show (3 : Nat) ≠ 0 by decide), rFk (show (4 : Nat) ≠ 0 by decide), rFk (show (10 : Nat) ≠ 0 by decide), rFk (show (19 : Nat) ≠ 0 by decide), h1, h2, h7, h8, c2, m19, c4, m10]
  repeat' split
  all_goals exact ⟨_, rfl, rfl⟩
