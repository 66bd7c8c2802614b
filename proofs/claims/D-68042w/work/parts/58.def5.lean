-- the parameters of a definition
theorem C_rpN {C : HS} {T : Nat → Int32} {n p h g d m : Nat} (hC : CV C T n p) (hP : PL C h g) (hd : d < 64) (hm : m ≤ 8) (o2 : gF C (6 + 3 * d) 2 = nI m) (h0 : gF C 0 7 = 0) (hs : tkS T n p ≠ 0) : f_P_readParameter FU (6 + 3 * d) C = some (cfl C (tkS T n p) (sk T n p)) := by
  obtain ⟨hx, hso⟩ := hC.so
  have ep : f_P_pass FU 500 C = _ := C_passN (x := 0) hC (by decide) h0 hs
  have e := C_tw (hC.fl (s := tkS T n p) (q := sk T n p)) (hP.fl (s := tkS T n p) (q := sk T n p)) hd hm (by unfold cfl; rw [rFi (by omega), rFi (by omega), o2]) FU 0 false (Nat.zero_le _) (by show m - 0 < 10000; omega)
  have nz : ¬ gF (cfl C (tkS T n p) (sk T n p)) 0 7 = 0 := (fcd_pos _).2.2
  have nz1 : ¬ gF (cfl C (tkS T n p) (sk T n p)) 0 7 ≤ 0 := (fcd_pos _).2.1
  rw [if_neg nz, show b32 false = (0 : Int32) from rfl, show nI 0 = (0 : Int32) from rfl] at e
  unfold f_P_readParameter f_P_readParameter_b27
  rw [hx, ob_s, gd_pos ⟨hso, by decide⟩, if_neg (by omega), ep, ob_s, lt_e, lt_e, e]
  unfold f_P_readParameter_b114
  rw [if_neg nz1]
theorem OD.mono {C0 M0 C1 M1 C' M' : HS} {T : Nat → Int32} {n p q d : Nat} (gc : GC C0 C1) (gm : GM M0 M1) (h : p ≤ q) (o : OD C1 M1 C' M' T n q d) : OD C0 M0 C' M' T n p d := by
  obtain ⟨a, b, c⟩ := o
  refine ⟨gc.tr a, gm.tr b, ?_⟩
  rcases c with F | ⟨p', x⟩
  · exact Or.inl F
  · obtain ⟨a1, h1, g1, pr1, al1, pt1, y1, y2⟩ := x
    exact Or.inr ⟨p', a1, h1, g1, pr1, al1, pt1, by omega, y2⟩
/-- a fault goes to the end of the definition -/
theorem OD.flt {C0 M0 C1 M1 C' M' : HS} {T : Nat → Int32} {n p d : Nat} (gc : GC C0 C1) (gm : GM M0 M1) (F : FTR C1 M1 T n) (tf : TF C1 C') (tm : TM M1 M') : OD C0 M0 C' M' T n p d := ⟨gc.tr (GC.tf tf), gm.tr (GM.tm tm), Or.inl (F.tf tf tm.f3 tm.f4)⟩
theorem DC {T : Nat → Int32} {n : Nat} (hn : n ≤ 512) {d : Nat} (hd : d < 64) : ∀ (x : Nat) {C M : HS} {p a h g m : Nat} {pr al pt : Nat → Nat}, n - p < x → CV C T n p → LexM M T n p → ZZ C M → a ≤ p → RD C M a h g pr al pt d → D2 C M d m → ∀ kc km, n - p + 3 ≤ kc → n - p + 3 ≤ km → ∃ C' M', f_P_readDefinition_b127 FU kc (6 + 3 * d) C = some C' ∧ f_M_readDefinition_b240 FU km (nI d) 1 M = some M' ∧ OD C M C' M' T n p (d + 1)
  | 0, _, _, _, _, _, _, _, _, _, _, hx => absurd hx (by omega)
  | x + 1, C, M, p, a, h, g, m, pr, al, pt, hx => by
    intro hC hL hz hap hR hD kc km hkc hkm
    have hP := hR.2.1.1
    have hb := hR.1
    have hm8 := hD.2.2.2.2.2.1
    obtain ⟨hgx, hso⟩ := hC.so
    have hs6 := tkS_lt T n p
    obtain ⟨k1, rfl⟩ : ∃ k1, kc = k1 + 2 := ⟨kc - 2, by omega⟩
    obtain ⟨k2, rfl⟩ : ∃ k2, km = k2 + 2 := ⟨km - 2, by omega⟩
    obtain ⟨M1, e1, fr1, L1, tk⟩ := M_tok hL hz.2.1
    have eC : f_P_readDefinition_b127 FU (k1 + 2) (6 + 3 * d) C = (if tkS T n p = 1 then f_P_readDefinition_b155 FU (6 + 3 * d) C else ob (f_P_readParameter FU (6 + 3 * d) C) fun S24 => f_P_readDefinition_b127 FU (k1 + 1) (6 + 3 * d) S24) := by
      show f_P_readDefinition_b127B FU (f_P_readDefinition_b127 FU (k1 + 1)) (6 + 3 * d) C = _
      unfold f_P_readDefinition_b127B
      rw [if_pos hz.1, hgx, ob_s, gd_pos ⟨hso, by decide⟩]
      by_cases q : tkS T n p = 1
      · rw [if_pos q, if_pos (by omega)]
      · rw [if_neg q, if_neg (by omega)]
    have eM : f_M_readDefinition_b240 FU (k2 + 2) (nI d) 1 M = (if (gF M1 200 6) = 0 then f_M_readDefinition_b271 FU (f_M_readDefinition_b240 FU (k2 + 1)) (nI d) M1 else (if (gF M1 200 6) = (1 : Int32) then f_M_readDefinition_b271 FU (f_M_readDefinition_b240 FU (k2 + 1)) (nI d) M1 else f_M_readDefinition_b276 FU (f_M_readDefinition_b240 FU (k2 + 1)) (nI d) (0 : Int32) M1)) := by
      show f_M_readDefinition_b240B FU (f_M_readDefinition_b240 FU (k2 + 1)) (nI d) 1 M = _
      unfold f_M_readDefinition_b240B
      rw [if_neg (by decide), if_pos hz.2.1, e1, ob_s]
    have R1 := hR.frm fr1
    have D1' := hD.frm fr1
    have gm1 : GM M M1 := GM.frm fr1
    rw [eC, eM]
    rcases tk with ⟨t5, f5, f6⟩ | ⟨t5, T1, z3, z4⟩
    · have nz : ¬ gF M1 200 3 = 0 := by rw [f5]; exact (fcd_pos 5).2.2
      rw [if_neg (by omega), C_rpN hC hP hd hm8 hD.2.2.2.1 hz.1 (by omega), ob_s]
      obtain ⟨C', e7, tf⟩ := C_b127F k1 (hC.fl (s := tkS T n p) (q := sk T n p)) (hP.fl (s := tkS T n p) (q := sk T n p)) hd (fcd_pos _).2.2
      have key : ∀ y, ∃ M', f_M_readDefinition_b276 FU (f_M_readDefinition_b240 FU (k2 + 1)) (nI d) y M1 = some M' ∧ TM M1 M' := fun y => by
        unfold f_M_readDefinition_b276 f_M_readDefinition_b292
        rw [M_mustF nz, ob2_s, lt_e, lt_e, if_neg nz, if_pos rfl, ite_self]
        by_cases q : gF M1 200 6 = 0
        · rw [if_pos q]; exact M_b240F k2 hd nz
        · rw [if_neg q]; exact M_b240F k2 hd nz
      have key2 : ∃ M', (if (gF M1 200 6) = 0 then f_M_readDefinition_b271 FU (f_M_readDefinition_b240 FU (k2 + 1)) (nI d) M1 else (if (gF M1 200 6) = (1 : Int32) then f_M_readDefinition_b271 FU (f_M_readDefinition_b240 FU (k2 + 1)) (nI d) M1 else f_M_readDefinition_b276 FU (f_M_readDefinition_b240 FU (k2 + 1)) (nI d) (0 : Int32) M1)) = some M' ∧ TM M1 M' := by
        unfold f_M_readDefinition_b271
        split
        · exact key 1
        · split
          · exact key 1
          · exact key 0
      obtain ⟨M', e8, tm⟩ := key2
      exact ⟨C', M', e7, e8, OD.flt (GC.fc FC.fl) gm1 ⟨FT.mk5 t5 f5 f6, ⟨p, hC.fl⟩, h, g, hP.fl, hb⟩ tf tm⟩
    · have z1 : ZZ C M1 := ⟨hz.1, z3, hz.2.2.1, z4.trans hz.2.2.2⟩
      have t6 := T1.2.2.2.2.2.2.1
      rw [t6]
      by_cases q1 : tkS T n p = 1
      · rw [if_pos q1, q1, if_neg (show ¬ nI 1 = (0 : Int32) by decide), if_pos (show nI 1 = (1 : Int32) from rfl)]
        obtain ⟨C1, e2, c1, f1⟩ := C_next hC
        have hgo := tkE_go (T := T) hC.2.1 (by omega)
        obtain ⟨C', M', y1, y2, y3⟩ := DD hn c1 L1 ⟨(f1.1 0 7 (by decide)).1.trans hz.1, z3, (f1.1 0 8 (by decide)).1.trans hz.2.2.1, z4.trans hz.2.2.2⟩ (by omega) (R1.frx f1) hd (D1'.frx f1)
        refine ⟨C', M', ?_, ?_, OD.mono (GC.frx f1) gm1 (by omega) y3⟩
        · unfold f_P_readDefinition_b155
          have ep : f_P_pass FU 501 C = some C1 := (C_passY (x := 1) hC hz.1 q1).trans e2
          have P1 : PL C1 h g := hP.cg (fun x => (f1.1 3 x (by decide)).2.2) (fun x => (f1.1 5 x (by decide)).2.2) f1.2.2.2
          rw [ep, ob_s, if_pos ((f1.1 0 7 (by decide)).1.trans hz.1), gdD P1 hd _ _ rfl, y1]
        · unfold f_M_readDefinition_b271 f_M_readDefinition_b276 f_M_readDefinition_b292
          rw [M_mustY T1 z3 (by decide) (by omega), ob2_s, t6, q1, if_neg (show ¬ nI 1 = (0 : Int32) by decide), lt_e, if_pos rfl]
          show f_M_readDefinition_b240B FU (f_M_readDefinition_b240 FU k2) (nI d) 0 M1 = _
          unfold f_M_readDefinition_b240B
          rw [if_pos rfl, y2]
      · rw [if_neg q1]
        by_cases q0 : tkS T n p = 0
        · rw [q0, if_pos (show nI 0 = (0 : Int32) from rfl)]
          obtain ⟨C', M', y1, y2, y3, y4, y5⟩ := PARAM hC T1 q0 z1 R1 hd D1'
          have eM2 : f_M_readDefinition_b271 FU (f_M_readDefinition_b240 FU (k2 + 1)) (nI d) M1 = f_M_readDefinition_b240 FU (k2 + 1) (nI d) 1 M' := by
            unfold f_M_readDefinition_b271 f_M_readDefinition_b276 f_M_readDefinition_b292
            rw [M_mustY T1 z3 (by decide) (by omega), ob2_s, t6, q0, if_pos (show nI 0 = (0 : Int32) from rfl), lt_e, if_neg (by decide), if_pos z3, y2, ob_s]
          rw [y1, ob_s, eM2]
          rcases y5 with F | ⟨p', hp', c', L', z', R', D'⟩
          · obtain ⟨p2, hC2⟩ := F.2.1
            obtain ⟨h2, g2, hP2, hb2⟩ := F.2.2
            obtain ⟨C3, e3, tf⟩ := C_b127F k1 hC2 hP2 hd F.1.c.1
            obtain ⟨M3, e4, tm⟩ := M_b240F (x := 1) k2 hd F.1.m.1
            exact ⟨C3, M3, e3, e4, OD.flt y3 (gm1.tr y4) F tf tm⟩
          · have hpn : p' ≤ n := c'.2.1
            obtain ⟨C3, M3, w1, w2, w3⟩ := DC hn hd x (by omega) c' L' z' (by omega) R' D' (k1 + 1) (k2 + 1) (by omega) (by omega)
            exact ⟨C3, M3, w1, w2, OD.mono y3 (gm1.tr y4) (by omega) w3⟩
        · rw [if_neg (show ¬ nI (tkS T n p) = (0 : Int32) from nI_ne (b := 0) (by omega) (by decide) q0), if_neg (show ¬ nI (tkS T n p) = (1 : Int32) from nI_ne (b := 1) (by omega) (by decide) q1), C_rpN hC hP hd hm8 hD.2.2.2.1 hz.1 q0, ob_s]
          obtain ⟨C', e7, tf⟩ := C_b127F k1 (hC.fl (s := tkS T n p) (q := sk T n p)) (hP.fl (s := tkS T n p) (q := sk T n p)) hd (fcd_pos _).2.2
          have nz : ¬ gF (mfl M1 (tkS T n p) (sk T n p)) 200 3 = 0 := (fcd_pos _).2.2
          obtain ⟨M', e8, tm⟩ := M_b240F (x := 0) k2 hd nz
          refine ⟨C', M', e7, ?_, OD.flt (GC.fc FC.fl) (gm1.tr (GM.fm FM.fl)) ⟨FT.mk, ⟨p, hC.fl⟩, h, g, hP.fl, hb⟩ tf tm⟩
          unfold f_M_readDefinition_b276 f_M_readDefinition_b292
          have t6' : gF (mfl M1 (tkS T n p) (sk T n p)) 200 6 = nI (tkS T n p) := by unfold mfl; rw [rFk (by decide), rFk (by decide), t6]
          rw [M_mustN T1 z3 (Or.inl rfl), ob2_s, t6', if_neg (show ¬ nI (tkS T n p) = (0 : Int32) from nI_ne (b := 0) (by omega) (by decide) q0), lt_e, if_pos rfl, e8]
