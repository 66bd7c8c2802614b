-- THE START: what the Statement gives, as KK
def nw_L : List Cond := flatC (Jvm.Cond.and given_1 narrow_1)
def st_at0 (i : Nat) : String × Nat × String := st_T.getD i ("", 0, "")
def tmS (i : Nat) : Jvm.Term := Jvm.Term.string (st_at0 i).1 (st_at0 i).2.1
/-- xs stands in ys, in that order -/
def subB : List Cond → List Cond → Bool
  | [], _ => true
  | _ :: _, [] => false
  | x :: xs, y :: ys => if x = y then subB xs ys else subB (x :: xs) ys
theorem subB_mem : ∀ (ys xs : List Cond), subB xs ys = true → ∀ w ∈ xs, w ∈ ys
  | [], [], _, w, hw => by cases hw
  | [], _ :: _, h, _, _ => by cases h
  | y :: ys, [], _, w, hw => by cases hw
  | y :: ys, x :: xs, h, w, hw => by
    unfold subB at h
    split at h
    · rename_i e
      rcases List.mem_cons.mp hw with rfl | hw
      · rw [e]; exact List.mem_cons_self
      · exact List.mem_cons_of_mem _ (subB_mem ys xs h w hw)
    · exact List.mem_cons_of_mem _ (subB_mem ys (x :: xs) h w hw)
/-- what the Statement says of the text i -/
def stC (i : Nat) : List Cond := [Cond.exactly (tmS i) "java/lang/String", Cond.eq (.field (tmS i) "java/lang/String" "coder" "B") (.int 0), Cond.arrayOf (.field (tmS i) "java/lang/String" "value" "[B") .byte, Cond.eq (.length (.field (tmS i) "java/lang/String" "value" "[B")) (.int (Int32.ofNat (st_B.getD i []).length))] ++ (List.range (st_B.getD i []).length).map (fun j => Cond.eq (.elem (.field (tmS i) "java/lang/String" "value" "[B") (.int (Int32.ofNat j))) (.int ((st_B.getD i []).getD j 0)))
theorem sw_all : subB ((List.range 58).flatMap stC) nw_L = true := by decide +kernel
theorem sw_in {i : Nat} (hi : i < 58) {w : Cond} (hw : w ∈ stC i) : w ∈ nw_L := subB_mem _ _ sw_all w (List.mem_flatMap.mpr ⟨i, List.mem_range.mpr hi, hw⟩)
theorem sw_ex (i : Nat) (hi : i < 58) : (Cond.exactly (tmS i) "java/lang/String") ∈ nw_L := sw_in hi (List.mem_append_left _ (List.mem_of_getElem? (i := 0) rfl))
theorem sw_co (i : Nat) (hi : i < 58) : (Cond.eq (.field (tmS i) "java/lang/String" "coder" "B") (.int 0)) ∈ nw_L := sw_in hi (List.mem_append_left _ (List.mem_of_getElem? (i := 1) rfl))
theorem sw_ar (i : Nat) (hi : i < 58) : (Cond.arrayOf (.field (tmS i) "java/lang/String" "value" "[B") .byte) ∈ nw_L := sw_in hi (List.mem_append_left _ (List.mem_of_getElem? (i := 2) rfl))
theorem sw_le (i : Nat) (hi : i < 58) : (Cond.eq (.length (.field (tmS i) "java/lang/String" "value" "[B")) (.int (Int32.ofNat (st_B.getD i []).length))) ∈ nw_L := sw_in hi (List.mem_append_left _ (List.mem_of_getElem? (i := 3) rfl))
theorem sw_el (i : Nat) (hi : i < 58) (j : Nat) (hj : j < (st_B.getD i []).length) : (Cond.eq (.elem (.field (tmS i) "java/lang/String" "value" "[B") (.int (Int32.ofNat j))) (.int ((st_B.getD i []).getD j 0))) ∈ nw_L := sw_in hi (List.mem_append_right _ (List.mem_map.mpr ⟨j, List.mem_range.mpr hj, rfl⟩))
theorem sw_rall : subB ((List.range 58).map (fun i => Cond.stringRef (st_at0 i).1 (st_at0 i).2.1 (st_at0 i).2.2)) tables_1 = true := by decide +kernel
theorem sw_rf (i : Nat) (hi : i < 58) : (Cond.stringRef (st_at0 i).1 (st_at0 i).2.1 (st_at0 i).2.2) ∈ tables_1 := subB_mem _ _ sw_rall _ (List.mem_map.mpr ⟨i, List.mem_range.mpr hi, rfl⟩)
theorem sw_sl : ∀ i, i < 6 → (Cond.laysStatic "TwoLevelParser$Sort" (so_N.getD i "") "LTwoLevelParser$Sort;") ∈ tables_1 := by decide +kernel
theorem sw_se : ∀ i, i < 6 → (Cond.exactly (.static "TwoLevelParser$Sort" (so_N.getD i "") "LTwoLevelParser$Sort;") "TwoLevelParser$Sort") ∈ nw_L := by decide +kernel
theorem sw_sn : ∀ i, i < 6 → ∀ j, j < 6 → i ≠ j → (Cond.not (.eq (.static "TwoLevelParser$Sort" (so_N.getD i "") "LTwoLevelParser$Sort;") (.static "TwoLevelParser$Sort" (so_N.getD j "") "LTwoLevelParser$Sort;"))) ∈ nw_L ∨ (Cond.not (.eq (.static "TwoLevelParser$Sort" (so_N.getD j "") "LTwoLevelParser$Sort;") (.static "TwoLevelParser$Sort" (so_N.getD i "") "LTwoLevelParser$Sort;"))) ∈ nw_L := by decide +kernel
theorem sw_cs : (Cond.eq (.static "java/lang/String" "COMPACT_STRINGS" "Z") (.int 1)) ∈ nw_L ∧ (Cond.isRef (.static "jdk/internal/util/Preconditions" "SIOOBE_FORMATTER" "Ljava/util/function/BiFunction;")) ∈ nw_L := by decide +kernel
theorem sw_ct : (Cond.laysStatic "java/lang/String" "COMPACT_STRINGS" "Z") ∈ tables_1 ∧ (Cond.laysStatic "jdk/internal/util/Preconditions" "SIOOBE_FORMATTER" "Ljava/util/function/BiFunction;") ∈ tables_1 ∧ (Cond.arrayOver (.object "TwoLevelParser$Node")) ∈ tables_1 ∧ (Cond.arrayOver (.object "TwoLevelParser$Definition")) ∈ tables_1 ∧ (Cond.arrayOver (.object "TwoLevelParser$Open")) ∈ tables_1 := by decide +kernel
theorem sw_bl : ∀ i, i < 58 → (st_B.getD i []).length < 2 ^ 31 := by decide +kernel
theorem str_one {args : Array Value} {s : State} {tm : Jvm.Term} {bs : List Int32} (hn : bs.length < 2 ^ 31) (hex : (Cond.exactly tm "java/lang/String").before args s = true) (hco : (Cond.eq (.field tm "java/lang/String" "coder" "B") (.int 0)).before args s = true)
    (har : (Cond.arrayOf (.field tm "java/lang/String" "value" "[B") .byte).before args s = true) (hle : (Cond.eq (.length (.field tm "java/lang/String" "value" "[B")) (.int (Int32.ofNat bs.length))).before args s = true)
    (hel : ∀ j : Nat, j < bs.length → (Cond.eq (.elem (.field tm "java/lang/String" "value" "[B") (.int (Int32.ofNat j))) (.int (bs.getD j 0))).before args s = true) :
    ∃ a t : Nat, tm.eval args s none [] s = some (.ref a) ∧ sOK s.heap.size bs a t s := by
  have hA : ∀ a : Nat, a < s.heap.size → ¬ zA s.heap.size a := fun a h q => absurd h (Nat.not_lt.mpr q)
  obtain ⟨a, c, cA, kA, q1, q2, q3, q4, q5, q6, -⟩ := Cond.exactly_spec (args := args) (first := s) (o := none) (s := s) (idx := []) (t := tm) (cls := "java/lang/String") hex
  obtain ⟨t, ht, hT⟩ := va_Tof (f := fun j => .int (bs.getD j 0)) (A := zA s.heap.size) hn har (va_eqt hle) (fun j hj => va_eqt (hel j hj)) hA
  exact ⟨a, t, q1, ⟨cA, q3, q5, by rw [q6]; exact q2, hA a (Array.getElem?_eq_some_iff.mp q3).1⟩, vk_OFof q1 (va_eqt hco) hA, vk_OFof q1 ht hA, hT⟩
theorem arr_one {args : Array Value} {s : State} {ty : FieldType} (hob : ∀ C0, ty ≠ .object C0) (h : (Cond.arrayClass ty).before args s = true) : ∃ c : ClassId, ArrOfT s c ty ∧ va_RA s c ty := by
  obtain ⟨c, k, comp, h1, h2, h3⟩ := Cond.arrayClass_spec h
  refine ⟨c, fun n z => ⟨(fun k h => by cases h), k, h2, comp, h3⟩, ?_⟩
  cases ty <;> first | exact h1 | exact absurd rfl (hob _)
theorem arr_obj {args : Array Value} {s : State} {C : String} (h : (Cond.arrayOver (.object C)).before args s = true) : ∃ c : ClassId, ArrOfT s c (.object C) ∧ va_RA s c (.object C) := by
  obtain ⟨comp, c, k, h1, -, h2, h3, h4⟩ := Cond.arrayOver_spec h
  exact ⟨c, fun n z => ⟨(fun k h => by cases h), k, h2, comp, h3⟩, k, comp, h2, h3, h1, h4⟩
set_option maxHeartbeats 4000000 in
theorem kk_start {args : Array Value} {s : State} (hts : ∀ w ∈ lw_tbl, w.before args s = true) (hgv : (Jvm.Cond.and given_1 narrow_1).before args s = true) : ∃ (D : va_G) (cA : Nat → ClassId) (ac : Nat → Nat), KK D cA s.heap.size ac s := by
  have hs : ∀ w ∈ nw_L, w.before args s = true := flat_of_before _ hgv
  have ht : ∀ w ∈ tables_1, w.before args s = true := fun w hw => hts w (List.mem_append_right _ hw)
  have hg : ∀ w ∈ lw_g, w.before args s = true := fun w hw => hts w (lw_g_tbl hw)
  have hA : ∀ a : Nat, a < s.heap.size → ¬ zA s.heap.size a := fun a h q => absurd h (Nat.not_lt.mpr q)
  obtain ⟨c0, i0, k0⟩ := u_known (C := R_P) (T := F_P) (N := 9) (n := 9) hg i_P (hg _ kt_P)
  obtain ⟨c1, i1, k1⟩ := u_known (C := R_X) (T := F_X) (N := 7) (n := 7) hg i_X (hg _ kt_X)
  obtain ⟨c2, i2, k2⟩ := u_known (C := R_D) (T := F_D) (N := 8) (n := 8) hg i_D (hg _ kt_D)
  obtain ⟨c3, i3, k3⟩ := u_known (C := R_N) (T := F_N) (N := 11) (n := 11) hg i_N (hg _ kt_N)
  obtain ⟨c4, i4, k4⟩ := u_known (C := R_O) (T := F_O) (N := 4) (n := 4) hg i_O (hg _ kt_O)
  obtain ⟨c5, i5, k5⟩ := u_known (C := R_M) (T := F_M) (N := 33) (n := 33) hg i_M (hg _ kt_M)
  obtain ⟨a0, b0⟩ := arr_one (fun _ h => by cases h) (hg _ ka_byte)
  obtain ⟨a1, b1⟩ := arr_one (fun _ h => by cases h) (hg _ ka_int)
  obtain ⟨a2, b2⟩ := arr_one (fun _ h => by cases h) (hg _ ka_long)
  obtain ⟨a3, b3⟩ := arr_obj (ht _ sw_ct.2.2.1)
  obtain ⟨a4, b4⟩ := arr_obj (ht _ sw_ct.2.2.2.1)
  obtain ⟨a5, b5⟩ := arr_obj (ht _ sw_ct.2.2.2.2)
  have hstr : ∀ i : Nat, ∃ q : Nat × Nat, i < 58 → (tmS i).eval args s none [] s = some (.ref q.1) ∧ sOK s.heap.size (st_B.getD i []) q.1 q.2 s := by
    intro i
    by_cases hi : i < 58
    · obtain ⟨a, t, h1, h2⟩ := str_one (sw_bl i hi) (hs _ (sw_ex i hi)) (hs _ (sw_co i hi)) (hs _ (sw_ar i hi)) (hs _ (sw_le i hi)) (fun j hj => hs _ (sw_el i hi j hj))
      exact ⟨(a, t), fun _ => ⟨h1, h2⟩⟩
    · exact ⟨(0, 0), fun h => absurd h hi⟩
  obtain ⟨sa, hsa⟩ := Classical.axiomOfChoice hstr
  obtain ⟨so, hso⟩ := va_Enof (E := "TwoLevelParser$Sort") (d := "LTwoLevelParser$Sort;") (nm := so_N) (F := []) (A := zA s.heap.size) (fun i hi => ht _ (sw_sl i hi)) (hg _ kn_Sort) (fun i hi => hs _ (sw_se i hi)) (fun q hq => by cases hq) (fun i j hi hj hij => (sw_sn i hi j hj hij).imp (hs _) (hs _)) hA
  have e2 : (fun i => (if 500 + i < 358 then (sa (500 + i - 300)).1 else if 500 + i < 458 then (sa (500 + i - 400)).2 else so (500 + i - 500))) = so := by
    funext i
    rw [if_neg (by omega), if_neg (by omega), Nat.add_sub_cancel_left]
  refine ⟨(fun k => match k with | 0 => c0 | 1 => c1 | 2 => c2 | 3 => c3 | 4 => c4 | _ => c5, fun k => match k with | 0 => i0 | 1 => i1 | 2 => i2 | 3 => i3 | 4 => i4 | _ => i5), fun k => match k with | 10 => a0 | 11 => a1 | 12 => a2 | 13 => a3 | 14 => a4 | _ => a5, fun j => if j < 358 then (sa (j - 300)).1 else if j < 458 then (sa (j - 400)).2 else so (j - 500), ⟨?_, ?_⟩, ?_, ?_, ?_, va_Zof (ht _ sw_ct.1) (hg _ kn_Js) (va_eqi (hs _ sw_cs.1)) hA, va_Zqof (ht _ sw_ct.2.1) (hg _ kn_Jp) (hs _ sw_cs.2) hA, va_AO.of (ht _ sw_ct.2.2.1), va_AO.of (ht _ sw_ct.2.2.2.1), va_AO.of (ht _ sw_ct.2.2.2.2)⟩
  · intro k q hq
    match k, hq with
    | 0, hq => cases hq; exact k0
    | 1, hq => cases hq; exact k1
    | 2, hq => cases hq; exact k2
    | 3, hq => cases hq; exact k3
    | 4, hq => cases hq; exact k4
    | 5, hq => cases hq; exact k5
    | k + 6, hq => simp [cls] at hq
  · intro k q hq
    match k, hq with
    | 0, hq => cases hq; exact b0
    | 1, hq => cases hq; exact b1
    | 2, hq => cases hq; exact b2
    | 3, hq => cases hq; exact b3
    | 4, hq => cases hq; exact b4
    | 5, hq => cases hq; exact b5
    | k + 6, hq => simp [tyl] at hq
  · intro w hw
    have hk := (List.mem_filter.mp hw).2
    have hb := ht w (List.mem_filter.mp hw).1
    cases w <;> first | exact va_Nw.of rfl hb | cases hk
  · intro i q hq
    have hi : i < 58 := by rw [← st_len]; exact (List.getElem?_eq_some_iff.mp hq).1
    have hq0 : st_at0 i = q := by unfold st_at0; rw [List.getD_eq_getElem?_getD, hq]; rfl
    obtain ⟨h1, h2⟩ := hsa i hi
    have hr := ht _ (sw_rf i hi)
    unfold tmS at h1
    rw [hq0] at h1 hr
    dsimp only
    rw [if_pos (show 300 + i < 358 by omega), if_neg (show ¬ 400 + i < 358 by omega), if_pos (show 400 + i < 458 by omega), Nat.add_sub_cancel_left, Nat.add_sub_cancel_left]
    exact ⟨vk_R.of hr h1, h2⟩
  · dsimp only
    rw [e2]
    exact hso
