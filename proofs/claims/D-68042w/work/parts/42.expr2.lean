-- an expression begins, on both sides
theorem RB.ho {C M : HS} {a h g : Nat} {pr al pt : Nat → Nat} {fs : List (Nat × Nat × Nat)} {v0 : Nat} (hR : RB C M a h g pr al pt fs v0) : (fs.length = 0 ∧ prO (fs.map Prod.fst) = 0) ∨ (∃ d q, fs.length = d + 1 ∧ prO (fs.map Prod.fst) = q + 1 ∧ d < g ∧ gF C (1001 + 2 * d) 0 = nI q ∧ q < a) := by
  obtain ⟨r1, r2, r3, r4, r5, r6, r7, r8, r9⟩ := hR
  cases fs with
  | nil => exact Or.inl ⟨rfl, rfl⟩
  | cons x fs =>
    obtain ⟨k, κ, s⟩ := x
    refine Or.inr ⟨fs.length, k, rfl, rfl, r2.2.1, r9.2.1, r9.1.2.2.2⟩
theorem M_num {M : HS} {T : Nat → Int32} {n p a : Nat} {o : Int32} (hM : MT M T n p) (h19 : gF M 200 19 = nI a) (ha : a < 8192) (hs : tkS T n p = 3) : ∃ M', f_M_begin FU 1 o M = some M' ∧ MKL M M' a 0 o (-1) (tkV T n p) 0 := by
  obtain ⟨M1, e1, m1, ⟨k0, k1, k2, k3, k4, k5, k6, k7, k8⟩, m3, m4, m5, m6⟩ := M_make (κ := 0) (o := o) h19 ha
  unfold f_M_begin
  rw [hM.2.2.2.2.2.2.1, hs, if_pos (show nI 3 = (3 : Int32) from rfl), if_neg (by decide), e1, ob2_s, lt_e, gd_pos (in_n ha (by decide)), lt_e, cl_n (by omega), m3 200 9 (by omega) (by omega), hM.2.2.2.2.2.2.2.2.1 hs]
  refine ⟨_, rfl, by rw [rFi (by decide), m1], ⟨by rw [rFi (by decide), k0], by rw [rFi (by decide), k1], by rw [rFi (by decide), k2], by rw [rFi (by decide), k3], by rw [rFi (by decide), k4], rFy, by rw [rFi (by decide), k6], k7, k8⟩, fun i k h1 h2 => ?_, fun i k h1 => m4 i k h1, m5, m6⟩
  rw [rF, if_neg (by omega), m3 i k h1 h2]
theorem M_nam {M : HS} {T : Nat → Int32} {n p a : Nat} {o : Int32} (hM : MT M T n p) (h19 : gF M 200 19 = nI a) (ha : a < 8192) (hs : tkS T n p = 2) (hw : mwF T n p = 1) : ∃ M', f_M_begin FU 1 o M = some M' ∧ MKL M M' a 1 o (nI (sk T n p)) 0 (tkW T n p) := by
  obtain ⟨M1, e1, m1, ⟨k0, k1, k2, k3, k4, k5, k6, k7, k8⟩, m3, m4, m5, m6⟩ := M_make (κ := 1) (o := o) h19 ha
  unfold f_M_begin f_M_begin_b32
  rw [hM.2.2.2.2.2.2.1, hs, if_neg (show ¬ nI 2 = (3 : Int32) by decide), if_neg (by decide), M_own hM, ob_s, hw, if_neg (by decide), e1, ob2_s, lt_e]
  unfold f_M_setName
  rw [gd_pos (in_n ha (by decide)), lt_e, gd_pos (in_n ha (by decide)), lt_e, cl_n (by omega), ob_s, rFL, m3 200 7 (by omega) (by omega), m4 200 8 (by omega), hM.2.2.2.2.2.1, hM.2.2.2.2.2.2.2.1 hs]
  refine ⟨_, rfl, by rw [rFi (by decide), rFL, m1], ⟨by rw [rFi (by decide), rFL, k0], by rw [rFi (by decide), rFL, k1], by rw [rFi (by decide), rFL, k2], rFy, by rw [rFi (by decide), rFL, k4], by rw [rFi (by decide), rFL, k5], by rw [rFi (by decide), rFL, k6], by rw [rLF, rLy], by rw [rLF, rLi (by decide), k8]⟩, fun i k h1 h2 => ?_, fun i k h1 => ?_, m5, m6⟩
  · rw [rF, if_neg (by omega), rFL, m3 i k h1 h2]
  · rw [rLF, rL, if_neg (by omega), m4 i k h1]
theorem M_nil {M : HS} {T : Nat → Int32} {n p a : Nat} {o : Int32} (hM : MT M T n p) (h19 : gF M 200 19 = nI a) (ha : a < 8192) (hs : tkS T n p = 2) (hw : tkW T n p = spc 302) : ∃ M', f_M_begin FU 1 o M = some M' ∧ MKL M M' a 2 o (-1) 0 0 := by
  obtain ⟨M1, e1, m⟩ := M_make (κ := 2) (o := o) h19 ha
  have hF : mwF T n p = 0 := by
    unfold mwF
    rw [if_pos hs, hw]
    decide +kernel
  have hn := is_e (a := 57) hM (by decide) (by decide)
  simp only [Nat.reduceAdd] at hn
  rw [spM3.2.2, if_pos ⟨hs, hw⟩] at hn
  unfold f_M_begin f_M_begin_b32 f_M_begin_b58
  rw [hM.2.2.2.2.2.2.1, hs, if_neg (show ¬ nI 2 = (3 : Int32) by decide), if_neg (by decide), M_own hM, ob_s, hF, if_pos rfl, if_neg (by decide), hn, ob_s, if_neg (by decide), e1, ob2_s, lt_e]
  exact ⟨_, rfl, m⟩
/-- the model's way to a parenthesis -/
theorem M_b81 {M : HS} {T : Nat → Int32} {n p : Nat} {o st : Int32} (hst : st = 0 ∨ st = 1) (hM : MT M T n p) (h : st = 0 ∨ (tkS T n p ≠ 3 ∧ mwF T n p = 0 ∧ ¬ (tkS T n p = 2 ∧ tkW T n p = spc 302))) : f_M_begin FU st o M = f_M_begin_b81 FU st o M := by
  unfold f_M_begin f_M_begin_b32 f_M_begin_b58
  rcases hst with rfl | rfl
  · rw [if_pos rfl, if_pos rfl, if_pos rfl, ite_self]
  · obtain ⟨h3, hf, hn⟩ := h.resolve_left (by decide)
    have hs6 := tkS_lt T n p
    have hi := is_e (a := 57) hM (by decide) (by decide)
    simp only [Nat.reduceAdd] at hi
    rw [spM3.2.2, if_neg hn] at hi
    rw [hM.2.2.2.2.2.2.1, if_neg (show ¬ nI (tkS T n p) = (3 : Int32) from nI_ne (b := 3) (by omega) (by decide) h3), if_neg (by decide), M_own hM, ob_s, hf, if_pos rfl, if_neg (by decide), hi, ob_s, if_pos rfl]
theorem M_b81N {M : HS} {T : Nat → Int32} {n p : Nat} {o st : Int32} (hM : MT M T n p) (h0 : gF M 200 3 = 0) (h : tkS T n p ≠ 0) : f_M_begin_b81 FU st o M = some (mfl M (tkS T n p) (sk T n p)) := by
  have hs6 := tkS_lt T n p
  unfold f_M_begin_b81 f_M_begin_b94
  rw [hM.2.2.2.2.2.2.1, if_neg (show ¬ nI (tkS T n p) = (0 : Int32) from nI_ne (b := 0) (by omega) (by decide) h), M_mustN hM h0 (Or.inl rfl), ob2_s, if_pos rfl]
theorem PL.fl {C : HS} {h g s q : Nat} (hP : PL C h g) : PL (cfl C s q) h g := hP
theorem CV.fl {C : HS} {T : Nat → Int32} {n p s q : Nat} (hC : CV C T n p) : CV (cfl C s q) T n p := hC.cg (fun k => by unfold cfl; rw [rFi (by decide), rFi (by decide)]) (fun k => by unfold cfl; rw [rFi (by decide), rFi (by decide)]) (fun _ => rfl) (fun _ => rfl)
theorem LF.fc {C C' : HS} {a po : Nat} {κ pl v fp vl : Int32} {w : Int64} (l : LF C C' a po κ pl v fp vl w) : FC C C' := by
  obtain ⟨l1, l2, l3, l4, l5, l6, l7⟩ := l
  exact ⟨fun i k h1 h2 => ⟨l3 i k (by omega) (by omega) (by omega) (by omega), l5 i k (by omega) (by omega)⟩, l3 0 4 (by decide) (by omega) (by omega) (by omega), l7⟩
theorem EX_leaf {C C' M M' : HS} {T : Nat → Int32} {n p a h h' g : Nat} {pr al pt : Nat → Nat} {fs : List (Nat × Nat × Nat)} {v0 : Nat} {κ fp vl : Int32} {w : Int64} (hM : MT M T n p) (hz : gF C 0 7 = 0 ∧ gF M 200 3 = 0 ∧ gF C 0 8 = -1 ∧ gF M 200 4 = -1) (hb : a ≤ p ∧ h ≤ 600 ∧ g ≤ 600) (hn : n ≤ 512) (hR : RB C M a h g pr al pt fs v0) (hRM : RM M fs v0) (hs : tkS T n p < 4) (c : CV C' T n (tkE T n p)) (P' : PL C' h' g) (h1 : a < h') (h2 : h' = h ∨ h' = a + 1) (l : LF C C' a (prO (fs.map Prod.fst)) κ (nI (sk T n p)) (nI (thr v0 fs)) fp vl w) (m : MKL M M' a κ (pI (prO (fs.map Prod.fst))) fp vl w) :
    ∃ p' h' g' pr' al' pt' fs', p < p' ∧ RW C' M' T n p' (a + 1) h' g' pr' al' pt' fs' v0 := by
  have hp := hM.2.1
  have hgo := tkE_go (T := T) hp hs
  obtain ⟨-, he⟩ := tkE_le (T := T) hp
  have m3 := m.2.2.1
  have l3 := l.2.2.1
  refine ⟨tkE T n p, h', g, _, _, _, fs, hgo, ⟨c, ?_, ?_, he, by omega, fun j hj => ?_⟩, ⟨?_, ?_, ?_, ?_⟩, ⟨by omega, by omega, hb.2.2⟩, hR.leaf rfl P' h1 l m hM.2.2.2.2.2.1.symm hRM.2.2.symm rfl, hRM.1.cg (fun k _ => ⟨m3 229 k (by omega) (by omega), m3 230 k (by omega) (by omega)⟩), ?_, ?_⟩
  · rw [m3 200 2 (by omega) (by omega), hM.1]
  · rw [m3 200 5 (by omega) (by omega), hM.2.2.2.2.1]
  · rw [m3 201 j (by omega) (by omega), hM.2.2.2.1 j hj]
  · rw [l3 0 7 (by decide) (by omega) (by omega) (by omega), hz.1]
  · rw [m3 200 3 (by omega) (by omega), hz.2.1]
  · rw [l3 0 8 (by decide) (by omega) (by omega) (by omega), hz.2.2.1]
  · rw [m3 200 4 (by omega) (by omega), hz.2.2.2]
  · rw [m3 200 31 (by omega) (by omega), hRM.2.1]
  · rw [m3 200 32 (by omega) (by omega), hRM.2.2]
