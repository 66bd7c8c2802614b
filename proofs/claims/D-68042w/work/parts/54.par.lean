-- a parameter, on both sides
theorem C_type {C : HS} {T : Nat → Int32} {n p : Nat} {x : Int32} (hC : CV C T n p) (h0 : gF C 0 7 = 0) : f_P_type FU x C = (if mwT T n p < 0 ∨ (¬ x = 0 ∧ ¬ mwT T n p ≤ 1) then some (mwT T n p, cfl C (tkS T n p) (sk T n p)) else ob (f_X_next FU C) fun S6 => some (mwT T n p, S6)) := by
  obtain ⟨hx, hs⟩ := hC.so
  have key : f_P_type FU x C = f_P_type_b27 FU x (mwT T n p) C := by
    unfold f_P_type mwT
    rw [hx, ob_s, gd_pos ⟨hs, by decide⟩]
    by_cases e : tkS T n p = 2
    · rw [if_pos (by omega), if_pos e, typeOf_e, ob_s, hC.2.2.2.2.2.2.2.1 e]
    · rw [if_neg (by omega), if_neg e]
  rw [key]
  unfold f_P_type_b27 f_P_type_b41 f_P_type_b48
  rw [lt_e, C_refuse hC h0, ob_s, if_pos h0]
  by_cases a : mwT T n p < 0
  · rw [if_pos a, if_pos (Or.inl a)]
  · rw [if_neg a]
    by_cases b : x = 0
    · rw [if_pos b, if_neg (fun q => q.elim a (fun z => z.1 b))]
    · rw [if_neg b]
      by_cases c : mwT T n p ≤ 1
      · rw [if_pos c, if_neg (fun q => q.elim a (fun z => z.2 c))]
      · rw [if_neg c, if_pos (Or.inr ⟨b, c⟩)]
theorem C_b110 {C : HS} {T : Nat → Int32} {n p x : Nat} (hC : CV C T n p) (h0 : gF C 0 7 = 0) : f_P_readParameter_b110 FU x C = some (cfl C (tkS T n p) (sk T n p)) := by
  unfold f_P_readParameter_b110 f_P_readParameter_b114
  rw [C_refuse hC h0, ob_s, if_neg (show ¬ gF (cfl C (tkS T n p) (sk T n p)) 0 7 ≤ 0 from (fcd_pos _).2.1)]
theorem C_b169F {C : HS} {T : Nat → Int32} {n p h g d m : Nat} {y : Int32} (hC : CV C T n p) (hP : PL C h g) (hd : d < 64) (hm : m < 8) (h0 : ¬ gF C 0 7 = 0) : ∃ C', f_P_readParameter_b169 FU (6 + 3 * d) y (nI m) (6 + 3 * d + 2) C = some C' ∧ TF C C' := by
  have t1 : TF C (sF C (6 + 3 * d + 2) m y) := TF.sF (Or.inl ⟨by omega, by omega⟩)
  unfold f_P_readParameter_b169
  rw [gdB hP hd _ _ rfl, gd_pos (in_n hm (by decide)), lt_e, cl_n (by omega)]
  have e : f_P_pass FU 501 (sF C (6 + 3 * d + 2) m y) = some (sF C (6 + 3 * d + 2) m y) := C_passF (x := 1) (t1.cv hC) (by decide) (by rw [t1.f7]; exact h0)
  rw [e, ob_s, gdD (t1.pl hP) hd _ _ rfl, gdD (t1.pl hP) hd _ _ rfl, lt_e]
  exact ⟨_, rfl, t1.tr (TF.sF (Or.inl ⟨by omega, by omega⟩))⟩
theorem M_b191 {M : HS} {d m : Nat} {y : Int32} (hd : d < 64) (hm : m < 8) : f_M_readParameter_b191 FU (nI d) y (nI (8 * d + m)) M = (if (gF M 200 3) = 0 then ob (f_M_next FU (sF (sF M 218 (8 * d + m) y) 213 d ((gF M 213 d) + 1))) fun S28 => (if (gF S28 200 6) = (1 : Int32) then f_M_readParameter_b227 FU (1 : Int32) S28 else f_M_readParameter_b227 FU (0 : Int32) S28) else some (sF (sF M 218 (8 * d + m) y) 213 d ((gF M 213 d) + 1))) := by
  unfold f_M_readParameter_b191
  simp only [lt_e, cl_n (show d < 2 ^ 31 by omega), cl_n (show 8 * d + m < 2 ^ 31 by omega), gd_pos (in_n hd (by decide)), gd_pos (in_n (show 8 * d + m < 512 by omega) (by decide))]
  rfl
theorem M_b191F {M : HS} {d m : Nat} {y : Int32} (hd : d < 64) (hm : m < 8) (h0 : ¬ gF M 200 3 = 0) : ∃ M', f_M_readParameter_b191 FU (nI d) y (nI (8 * d + m)) M = some M' ∧ TM M M' := by
  rw [M_b191 hd hm, if_neg h0]
  exact ⟨_, rfl, (TM.sF (Or.inl ⟨by decide, by decide⟩)).tr (TM.sF (Or.inl ⟨by decide, by decide⟩))⟩
theorem ix8 {d m : Nat} (hm : m < 8) : ((8 : Int32) * nI d) + (nI m &&& (7 : Int32)) = nI (8 * d + m) := by
  rw [pk_andN (n := m) (by omega) 3 (by decide), show (8 : Int32) = nI 8 from rfl, pk_mul, nI_add, show m % 2 ^ 3 = m by omega]
theorem PARAM2 {C M : HS} {T : Nat → Int32} {n p a h g : Nat} {pr al pt : Nat → Nat} {d m : Nat} (hC : CV C T n p) (hM : MT M T n p) (hL : LexM M T n (tkE T n p)) (hs : tkS T n p = 2) (hz : ZZ C M) (hR : RD C M a h g pr al pt d) (hd : d < 64) (hm : m < 8) (hD : D2 C M d m) : ∃ C' M', f_P_readParameter_b114 FU (6 + 3 * d) C = some C' ∧ f_M_readParameter_b98 FU (nI d) 1 M = some M' ∧ GC C C' ∧ GM M M' ∧ (FTR C' M' T n ∨ ∃ p', p < p' ∧ CV C' T n p' ∧ LexM M' T n p' ∧ ZZ C' M' ∧ RD C' M' a h g pr al pt d ∧ D2 C' M' d (m + 1)) := by
  have hP := hR.2.1.1
  have hb := hR.1
  have o2 : gF C (6 + 3 * d) 2 = nI m := hD.2.2.2.1
  have n2 : gF M 213 d = nI m := hD.2.2.2.2.1
  -- the component keeps the name
  have c2 : CV (sL C (6 + 3 * d + 1) m (tkW T n p)) T n p := hC.cg (fun _ => rfl) (fun _ => rfl) (fun k => by rw [rLi (by omega)]) (fun _ => rfl)
  obtain ⟨C3, e3, c3, f3⟩ := C_next c2
  have P3 : PL C3 h g := hP.cg (fun x => (f3.1 3 x (by decide)).2.2) (fun x => (f3.1 5 x (by decide)).2.2) f3.2.2.2
  have z37 : gF C3 0 7 = 0 := (f3.1 0 7 (by decide)).1.trans hz.1
  have o3 : gF C3 (6 + 3 * d) 2 = nI m := (f3.1 _ _ (by omega)).1.trans o2
  have eC : f_P_readParameter_b114 FU (6 + 3 * d) C = ob2 (f_P_type FU 0 C3) fun r24 S23 => f_P_readParameter_b169 FU (6 + 3 * d) r24 (nI m) (6 + 3 * d + 2) S23 := by
    unfold f_P_readParameter_b114
    have ep : f_P_pass FU 502 (sL C (6 + 3 * d + 1) m (tkW T n p)) = f_X_next FU (sL C (6 + 3 * d + 1) m (tkW T n p)) := C_passY (x := 2) c2 hz.1 hs
    rw [if_pos (by rw [hz.1]; exact Int32.le_refl _), gdD hP hd _ _ rfl, gdD hP hd _ _ rfl, gdA hP hd _ _ rfl, o2, gd_pos (in_n hm (by decide)), lt_e, cl_n (by omega), hC.2.2.2.2.2.2.2.1 hs, ep, e3, ob_s, gdD P3 hd _ _ rfl, gdD P3 hd _ _ rfl, if_pos z37, o3]
  -- the model keeps it
  have L2 : LexM (sL M 217 (8 * d + m) (tkW T n p)) T n (tkE T n p) := hL.cg rfl rfl (fun _ => rfl)
  obtain ⟨M3, e4, fr3, L3, tk⟩ := M_tok L2 hz.2.1
  have n3 : gF M3 213 d = nI m := (fr3.1 _ _ (by decide)).1.trans n2
  have eM : f_M_readParameter_b98 FU (nI d) 1 M = (if 0 < (gF M3 200 3) then f_M_readParameter_b149 FU (nI d) M3 else ob (f_M_type FU M3) fun r18 => (if r18 < 0 then f_M_readParameter_b154 FU (nI d) (0 : Int32) M3 else f_M_readParameter_b149 FU (nI d) M3)) := by
    unfold f_M_readParameter_b98
    rw [M_mustY hM hz.2.1 (by decide) (by omega), ob2_s, if_pos (by rw [hz.2.1]; exact Int32.le_refl _), gd_pos (in_n hd (by decide)), cl_n (by omega), n2, show (8 : Int32) = nI 8 from rfl, pk_mul, nI_add, gd_pos (in_n (by omega) (by decide)), lt_e, cl_n (by omega), hM.2.2.2.2.2.2.2.1 hs, e4, ob_s]
  have gc3 : GC C C3 := (GC.sL (by omega)).tr (GC.frx f3)
  have gm3 : GM M M3 := (GM.sL ⟨by decide, by decide, by decide⟩).tr (GM.frm fr3)
  have hp := hC.2.1
  have hgo := tkE_go (T := T) hp (by omega)
  obtain ⟨-, he⟩ := tkE_le (T := T) hp
  rw [eC, eM, C_type c3 z37]
  rcases tk with ⟨t5, f5, f6⟩ | ⟨t5, T3, z3, z4⟩
  · -- a wrong token
    have nz : ¬ gF M3 200 3 = 0 := by rw [f5]; exact (fcd_pos 5).2.2
    rw [if_pos (Or.inl (by unfold mwT; rw [if_neg (by omega)]; decide)), ob2_s, if_pos (by rw [f5]; exact (fcd_pos 5).1)]
    obtain ⟨C', e7, tf⟩ := C_b169F (y := mwT T n (tkE T n p)) (m := m) (c3.fl (s := tkS T n (tkE T n p)) (q := sk T n (tkE T n p))) (P3.fl (s := tkS T n (tkE T n p)) (q := sk T n (tkE T n p))) hd hm (fcd_pos _).2.2
    obtain ⟨M', e8, tm⟩ := M_b191F (y := 0) (m := m) hd hm nz
    refine ⟨C', M', e7, ?_, (gc3.tr (GC.fc FC.fl)).tr (GC.tf tf), gm3.tr (GM.tm tm), Or.inl (FTR.tf (M := M3) ⟨FT.mk5 t5 f5 f6, ⟨_, c3.fl⟩, h, g, P3.fl, hb⟩ tf tm.f3 tm.f4)⟩
    unfold f_M_readParameter_b149 f_M_readParameter_b154
    rw [M_mustF nz, ob2_s, gd_pos (in_n hd (by decide)), if_neg (by rw [f5]; exact (fcd_pos 5).2.1), cl_n (by omega), n3, ix8 hm, e8]
  · rw [if_neg (show ¬ 0 < gF M3 200 3 by rw [z3]; decide), M_type T3, ob_s]
    by_cases hT : mwT T n (tkE T n p) < 0
    · -- no type
      rw [if_pos (Or.inl hT), ob2_s, if_pos hT]
      obtain ⟨C', e7, tf⟩ := C_b169F (y := mwT T n (tkE T n p)) (m := m) (c3.fl (s := tkS T n (tkE T n p)) (q := sk T n (tkE T n p))) (P3.fl (s := tkS T n (tkE T n p)) (q := sk T n (tkE T n p))) hd hm (fcd_pos _).2.2
      have nz : ¬ gF (mfl M3 (tkS T n (tkE T n p)) (sk T n (tkE T n p))) 200 3 = 0 := (fcd_pos _).2.2
      obtain ⟨M', e8, tm⟩ := M_b191F (y := 0) (m := m) hd hm nz
      refine ⟨C', M', e7, ?_, (gc3.tr (GC.fc FC.fl)).tr (GC.tf tf), (gm3.tr (GM.fm FM.fl)).tr (GM.tm tm), Or.inl (FTR.tf ⟨FT.mk, ⟨_, c3.fl⟩, h, g, P3.fl, hb⟩ tf tm.f3 tm.f4)⟩
      unfold f_M_readParameter_b154
      have n4 : gF (mfl M3 (tkS T n (tkE T n p)) (sk T n (tkE T n p))) 213 d = nI m := by unfold mfl; rw [rFi (by decide), rFi (by decide), n3]
      rw [M_mustN T3 z3 (Or.inl rfl), ob2_s, gd_pos (in_n hd (by decide)), if_neg (show ¬ gF (mfl M3 (tkS T n (tkE T n p)) (sk T n (tkE T n p))) 200 3 ≤ 0 from (fcd_pos _).2.1), cl_n (by omega), n4, ix8 hm, e8]
    · -- a type
      have hT2 : tkS T n (tkE T n p) = 2 := by
        refine Decidable.byContradiction (fun z => hT ?_)
        unfold mwT
        rw [if_neg z]
        decide
      obtain ⟨C4, e5, c4, f4⟩ := C_next c3
      rw [if_neg (fun q => q.elim hT (fun z => z.1 rfl)), e5, ob_s, ob2_s, if_neg hT]
      have P4 : PL C4 h g := P3.cg (fun x => (f4.1 3 x (by decide)).2.2) (fun x => (f4.1 5 x (by decide)).2.2) f4.2.2.2
      have hgo2 := tkE_go (T := T) he (by omega)
      obtain ⟨-, he2⟩ := tkE_le (T := T) he
      -- names and types so far
      have c5 : CV (sF C4 (6 + 3 * d + 2) m (mwT T n (tkE T n p))) T n (tkE T n (tkE T n p)) := c4.cg (fun k => by rw [rFi (by omega)]) (fun k => by rw [rFi (by omega)]) (fun _ => rfl) (fun _ => rfl)
      have z57 : gF (sF C4 (6 + 3 * d + 2) m (mwT T n (tkE T n p))) 0 7 = 0 := by rw [rFi (by omega)]; exact (f4.1 0 7 (by decide)).1.trans z37
      have z58 : gF (sF C4 (6 + 3 * d + 2) m (mwT T n (tkE T n p))) 0 8 = -1 := by rw [rFi (by omega)]; exact (f4.1 0 8 (by decide)).1.trans ((f3.1 0 8 (by decide)).1.trans hz.2.2.1)
      have P5 : PL (sF C4 (6 + 3 * d + 2) m (mwT T n (tkE T n p))) h g := P4
      have o5 : gF (sF C4 (6 + 3 * d + 2) m (mwT T n (tkE T n p))) (6 + 3 * d) 2 = nI m := by rw [rFi (by omega)]; exact (f4.1 _ _ (by omega)).1.trans o3
      have gc5 : GC C (sF C4 (6 + 3 * d + 2) m (mwT T n (tkE T n p))) := (gc3.tr (GC.frx f4)).tr (GC.sF (by omega))
      have M4L : LexM (sF (sF M3 218 (8 * d + m) (mwT T n (tkE T n p))) 213 d (nI (m + 1))) T n (tkE T n (tkE T n p)) := L3.cg rfl rfl (fun _ => rfl)
      obtain ⟨M5, e9, fr5, L5, tk5⟩ := M_tok M4L z3
      have eM4 : f_M_readParameter_b149 FU (nI d) M3 = (if (gF M5 200 6) = (1 : Int32) then f_M_readParameter_b227 FU (1 : Int32) M5 else f_M_readParameter_b227 FU (0 : Int32) M5) := by
        unfold f_M_readParameter_b149 f_M_readParameter_b154
        rw [M_mustY T3 z3 (by decide) (by omega), ob2_s, gd_pos (in_n hd (by decide)), if_pos (by rw [z3]; exact Int32.le_refl _), M_type T3, ob_s, cl_n (show d < 2 ^ 31 by omega), n3, ix8 hm, M_b191 hd hm, if_pos z3, n3, nI_1, e9, ob_s]
      have gm5 : GM M M5 := ((gm3.tr (GM.sF ⟨⟨by decide, by decide, by decide⟩, by omega⟩)).tr (GM.sF ⟨⟨by decide, by decide, by decide⟩, by omega⟩)).tr (GM.frm fr5)
      unfold f_M_readParameter_b227 at eM4
      have eC5 : ∀ x, f_P_pass FU 501 (sF C4 (6 + 3 * d + 2) m (mwT T n (tkE T n p))) = some x → PL x h g → f_P_readParameter_b169 FU (6 + 3 * d) (mwT T n (tkE T n p)) (nI m) (6 + 3 * d + 2) C4 = some (sF x (6 + 3 * d) 2 ((gF x (6 + 3 * d) 2) + 1)) := fun x hx px => by
        unfold f_P_readParameter_b169
        rw [gdB P4 hd _ _ rfl, gd_pos (in_n hm (by decide)), lt_e, cl_n (by omega), hx, ob_s, gdD px hd _ _ rfl, gdD px hd _ _ rfl, lt_e]
      rcases tk5 with ⟨u5, g5, g6⟩ | ⟨u5, T5, y3, y4⟩
      · have ep : f_P_pass FU 501 (sF C4 (6 + 3 * d + 2) m (mwT T n (tkE T n p))) = _ := C_passN (x := 1) c5 (by decide) z57 (by omega)
        have tf : TF (cfl (sF C4 (6 + 3 * d + 2) m (mwT T n (tkE T n p))) (tkS T n (tkE T n (tkE T n p))) (sk T n (tkE T n (tkE T n p)))) (sF (cfl (sF C4 (6 + 3 * d + 2) m (mwT T n (tkE T n p))) (tkS T n (tkE T n (tkE T n p))) (sk T n (tkE T n (tkE T n p)))) (6 + 3 * d) 2 ((gF (cfl (sF C4 (6 + 3 * d + 2) m (mwT T n (tkE T n p))) (tkS T n (tkE T n (tkE T n p))) (sk T n (tkE T n (tkE T n p)))) (6 + 3 * d) 2) + 1)) := TF.sF (Or.inl ⟨by omega, by omega⟩)
        refine ⟨_, M5, eC5 _ ep P5.fl, ?_, (gc5.tr (GC.fc FC.fl)).tr (GC.tf tf), gm5, Or.inl (FTR.tf (M := M5) ⟨FT.mk5 u5 g5 g6, ⟨_, c5.fl⟩, h, g, P5.fl, hb⟩ tf rfl rfl)⟩
        rw [eM4, M_mustF (by rw [g5]; exact (fcd_pos 5).2.2), M_mustF (by rw [g5]; exact (fcd_pos 5).2.2), ob2_s, ite_self]
      · rw [T5.2.2.2.2.2.2.1] at eM4
        have hs6 := tkS_lt T n (tkE T n (tkE T n p))
        by_cases q1 : tkS T n (tkE T n (tkE T n p)) = 1
        · obtain ⟨C6, e6, c6, f6⟩ := C_next c5
          have ep : f_P_pass FU 501 (sF C4 (6 + 3 * d + 2) m (mwT T n (tkE T n p))) = some C6 := (C_passY (x := 1) c5 z57 q1).trans e6
          have P6 : PL C6 h g := P5.cg (fun x => (f6.1 3 x (by decide)).2.2) (fun x => (f6.1 5 x (by decide)).2.2) f6.2.2.2
          have hgo3 := tkE_go (T := T) he2 (by omega)
          have o6 : gF C6 (6 + 3 * d) 2 = nI m := (f6.1 _ _ (by omega)).1.trans o5
          have eF := eC5 _ ep P6
          rw [o6, nI_1] at eF
          rw [q1, if_pos (show nI 1 = (1 : Int32) from rfl), M_mustY T5 y3 (by decide) (by omega), ob2_s] at eM4
          -- what is kept
          have kC : ∀ i k, i ≠ 1 → ¬ (i = 6 + 3 * d ∧ k = 2) → ¬ (i = 6 + 3 * d + 2 ∧ k = m) → gF (sF C6 (6 + 3 * d) 2 (nI (m + 1))) i k = gF C i k := fun i k h1 h2 h3 => by rw [rF, if_neg h2, (f6.1 i k h1).1, rF, if_neg h3, (f4.1 i k h1).1, (f3.1 i k h1).1, rFL]
          have kL : ∀ i k, i ≠ 1 → ¬ (i = 6 + 3 * d + 1 ∧ k = m) → gL (sF C6 (6 + 3 * d) 2 (nI (m + 1))) i k = gL C i k := fun i k h1 h3 => by rw [rLF, (f6.1 i k h1).2.1, rLF, (f4.1 i k h1).2.1, (f3.1 i k h1).2.1, rL, if_neg h3]
          have kM : ∀ i k, i ≠ 200 → ¬ (i = 213 ∧ k = d) → ¬ (i = 218 ∧ k = 8 * d + m) → gF M5 i k = gF M i k := fun i k h1 h2 h3 => by rw [(fr5.1 i k h1).1, rF, if_neg h2, rF, if_neg h3, (fr3.1 i k h1).1, rFL]
          have kN : ∀ i k, i ≠ 200 → ¬ (i = 217 ∧ k = 8 * d + m) → gL M5 i k = gL M i k := fun i k h1 h3 => by rw [(fr5.1 i k h1).2, rLF, rLF, (fr3.1 i k h1).2, rL, if_neg h3]
          have k2 : ∀ k, k = 19 ∨ k = 10 → gF M5 200 k = gF M 200 k := fun k hk => by rw [fr5.2.1 k (by omega) (by omega) (by omega) (by omega) (by omega) (by omega), rFi (by decide), rFi (by decide), fr3.2.1 k (by omega) (by omega) (by omega) (by omega) (by omega) (by omega), rFL]
          refine ⟨_, M5, eF, eM4, (gc5.tr (GC.frx f6)).tr (GC.sF (by omega)), gm5, Or.inr ⟨_, Nat.lt_trans hgo (Nat.lt_trans hgo2 hgo3), ?_, L5, ⟨?_, y3, ?_, ?_⟩, ?_, ?_⟩⟩
          · exact c6.cg (fun k => by rw [rFi (by omega)]) (fun k => by rw [rFi (by omega)]) (fun _ => rfl) (fun _ => rfl)
          · rw [rFi (by omega), (f6.1 0 7 (by decide)).1, z57]
          · rw [rFi (by omega), (f6.1 0 8 (by decide)).1, z58]
          · rw [y4]; show gF M3 200 4 = -1; rw [z4]; exact hz.2.2.2
          · refine hR.cg (fun i k q => kC i k (by omega) (by omega) (by omega)) (fun i k q => kL i k (by omega) (by omega)) (fun i k q => ?_) ?_ (fun i k q => ?_) (fun i k q => kN i k (by omega) (by omega))
            · rw [rXF, (f6.1 i k (by omega)).2.2, rXF, (f4.1 i k (by omega)).2.2, (f3.1 i k (by omega)).2.2, rXL]
            · show C6.2.2.2 = _; rw [f6.2.2.2]; show C4.2.2.2 = _; rw [f4.2.2.2, f3.2.2.2]; rfl
            · by_cases e : i = 200
              · rw [e]; exact k2 k (by omega)
              · exact kM i k e (by omega) (by omega)
          · obtain ⟨x1, x2, x3, x4, x5, x6, x7⟩ := hD
            refine ⟨x1.cg (kC _ 0 (by omega) (by omega) (by omega)) (kM 211 d (by decide) (by omega) (by omega)), ?_, ?_, rFy, ?_, by omega, fun i hi => ?_⟩
            · rw [kM 215 d (by decide) (by omega) (by omega), kC _ 5 (by omega) (by omega) (by omega), x2]
            · rw [kN 216 d (by decide) (by omega), kL _ 4 (by omega) (by omega), x3]
            · rw [(fr5.1 213 d (by decide)).1, rFy]
            · by_cases e : i = m
              · subst e
                refine ⟨?_, ?_⟩
                · rw [(fr5.1 217 _ (by decide)).2, rLF, rLF, (fr3.1 217 _ (by decide)).2, rLy, rLF, (f6.1 _ _ (by omega)).2.1, rLF, (f4.1 _ _ (by omega)).2.1, (f3.1 _ _ (by omega)).2.1, rLy]
                · rw [(fr5.1 218 _ (by decide)).1, rFi (by decide), rFy, rFi (by omega), (f6.1 _ _ (by omega)).1, rFy]
              · obtain ⟨w1, w2⟩ := x7 i (by omega)
                refine ⟨?_, ?_⟩
                · rw [kN 217 _ (by decide) (by omega), kL _ i (by omega) (by omega), w1]
                · rw [kM 218 _ (by decide) (by omega) (by omega), kC _ i (by omega) (by omega) (by omega), w2]
        · have ep : f_P_pass FU 501 (sF C4 (6 + 3 * d + 2) m (mwT T n (tkE T n p))) = _ := C_passN (x := 1) c5 (by decide) z57 q1
          have tf : TF (cfl (sF C4 (6 + 3 * d + 2) m (mwT T n (tkE T n p))) (tkS T n (tkE T n (tkE T n p))) (sk T n (tkE T n (tkE T n p)))) (sF (cfl (sF C4 (6 + 3 * d + 2) m (mwT T n (tkE T n p))) (tkS T n (tkE T n (tkE T n p))) (sk T n (tkE T n (tkE T n p)))) (6 + 3 * d) 2 ((gF (cfl (sF C4 (6 + 3 * d + 2) m (mwT T n (tkE T n p))) (tkS T n (tkE T n (tkE T n p))) (sk T n (tkE T n (tkE T n p)))) (6 + 3 * d) 2) + 1)) := TF.sF (Or.inl ⟨by omega, by omega⟩)
          refine ⟨_, mfl M5 (tkS T n (tkE T n (tkE T n p))) (sk T n (tkE T n (tkE T n p))), eC5 _ ep P5.fl, ?_, (gc5.tr (GC.fc FC.fl)).tr (GC.tf tf), gm5.tr (GM.fm FM.fl), Or.inl (FTR.tf (M := mfl M5 (tkS T n (tkE T n (tkE T n p))) (sk T n (tkE T n (tkE T n p)))) ⟨FT.mk, ⟨_, c5.fl⟩, h, g, P5.fl, hb⟩ tf rfl rfl)⟩
          rw [eM4, if_neg (show ¬ nI (tkS T n (tkE T n (tkE T n p))) = (1 : Int32) from nI_ne (b := 1) (by omega) (by decide) q1), M_mustN T5 y3 (Or.inl rfl), ob2_s]
