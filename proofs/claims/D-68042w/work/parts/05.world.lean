-- THE WORLD: a typed heap, by the numbers of its cells
/-- ints, longs, references, which cells there are, how many were made, of how many slots -/
abbrev HS : Type := (Nat → Nat → Int32) × (Nat → Nat → Int64) × (Nat → Nat → Option Nat) × (Nat → Bool) × Nat × Nat
def gF (S : HS) (i k : Nat) : Int32 := S.1 i k
def gL (S : HS) (i k : Nat) : Int64 := S.2.1 i k
def gX (S : HS) (i k : Nat) : Option Nat := S.2.2.1 i k
def gD (S : HS) (i : Nat) : Bool := S.2.2.2.1 i
def gC (S : HS) : Nat := S.2.2.2.2.1
def gN (S : HS) : Nat := S.2.2.2.2.2
def sF (S : HS) (i k : Nat) (v : Int32) : HS := (fun a b => if a = i ∧ b = k then v else S.1 a b, S.2)
def sL (S : HS) (i k : Nat) (v : Int64) : HS := (S.1, fun a b => if a = i ∧ b = k then v else S.2.1 a b, S.2.2)
def sX (S : HS) (i k : Nat) (v : Option Nat) : HS := (S.1, S.2.1, fun a b => if a = i ∧ b = k then v else S.2.2.1 a b, S.2.2.2)
/-- a new cell i of n slots, all zero -/
def sN (S : HS) (i n : Nat) : HS := (fun a b => if a = i then 0 else S.1 a b, fun a b => if a = i then 0 else S.2.1 a b, fun a b => if a = i then none else S.2.2.1 a b, fun a => if a = i then true else S.2.2.2.1 a, S.2.2.2.2.1 + 1, S.2.2.2.2.2 + n)
/-- the kind of the cell i: 0..5 an object of that number in cls; 10 byte[], 11 int[], 12 long[], 13 Node[], 14 Definition[], 15 Open[]; 99 nothing -/
def kd (i : Nat) : Nat :=
  if i < 6 then (match i with | 0 => 0 | 1 => 1 | 2 => 10 | 3 => 13 | 4 => 14 | _ => 15)
  else if i < 198 then (match (i - 6) % 3 with | 0 => 2 | 1 => 12 | _ => 11)
  else if i < 231 then (match i - 200 with | 0 => if i = 200 then 5 else 99 | 1 => 10 | 11 => 11 | 12 => 11 | 13 => 11 | 14 => 11 | 15 => 11 | 16 => 12 | 17 => 12 | 18 => 11 | 20 => 11 | 21 => 11 | 22 => 11 | 23 => 11 | 24 => 11 | 25 => 11 | 26 => 11 | 27 => 12 | 28 => 12 | 29 => 10 | 30 => 11 | _ => 99)
  else if i < 1000 then 99
  else if i % 2 = 0 then 3 else 4
/-- an array's length -/
def ln (i : Nat) : Nat :=
  if i < 6 then (match i with | 2 => 8192 | 3 => 4200 | 4 => 64 | 5 => 4200 | _ => 0)
  else if i < 198 then 8
  else if i = 201 then 8192
  else if i < 217 then 64
  else if i < 219 then 512
  else if i < 229 then 8192
  else 33000
def nf (c : Nat) : Nat := match c with | 0 => 9 | 1 => 7 | 2 => 8 | 3 => 11 | 4 => 4 | 5 => 33 | _ => 0
def tyc (c k : Nat) : FieldType := match c with | 0 => t_P k | 1 => t_X k | 2 => t_D k | 3 => t_N k | 4 => t_O k | _ => t_M k
def tyv (t : FieldType) : Nat := match t with | .long => 1 | .object _ => 2 | .array _ => 2 | _ => 0
/-- the sort of a slot: 0 int, 1 long, 2 reference -/
def vt (c k : Nat) : Nat := if c < 6 then tyv (tyc c k) else if c < 12 then 0 else if c = 12 then 1 else 2
def vOf (ad : Nat → Nat) (S : HS) (t i k : Nat) : Value := match t with | 0 => .int (gF S i k) | 1 => .long (gL S i k) | _ => va_re ad (gX S i k)
/-- references that stand for good, once the objects are whole -/
def finR (i k : Nat) : Option Nat :=
  if i = 0 then (match k with | 0 => some 1 | 1 => some 3 | 3 => some 4 | 5 => some 5 | _ => none)
  else if i = 1 then (if k = 0 then some 2 else none)
  else if i = 4 then (if k < 64 then some (6 + 3 * k) else none)
  else if kd i = 2 then (match k with | 6 => some (i + 1) | 7 => some (i + 2) | _ => none)
  else if i = 200 then (if 0 < k ∧ kd (200 + k) < 99 ∧ k < 31 then some (200 + k) else none)
  else none
def fxB (i : Nat) : Bool := decide (i < 300) && decide (kd i < 99)
/-- what is sure of a world: cells that are there, references that stand -/
abbrev EV : Type := (Nat → Bool) × (Nat → Nat → Option Nat)
def E1 : EV := (fxB, finR)
def E0 : EV := (fun _ => false, fun _ _ => none)
def okid (S : HS) (j : Nat) : Prop := gD S j = true ∨ (300 ≤ j ∧ j < 600)
def cellAt (D : va_G) (cA : Nat → ClassId) (ad : Nat → Nat) (S : HS) (i : Nat) (H : Heap) : Prop :=
  (kd i < 6 → t_OB (ad i) (D.1 (kd i)) (nf (kd i)) (D.2 (kd i)) H (fun k => vOf ad S (vt (kd i) k) i k)) ∧
  (6 ≤ kd i → H[ad i]? = some (arrV (cA (kd i)) (ln i) (fun k => vOf ad S (vt (kd i) k) i k)))
/-- the heap H holds S at the addresses ad -/
def HW (D : va_G) (cA : Nat → ClassId) (z : Nat) (ac : Nat → Nat) (E : EV) (ad : Nat → Nat) (S : HS) (H : Heap) : Prop :=
  (∀ i, gD S i = true → cellAt D cA ad S i H) ∧ (∀ i j, gD S i = true → gD S j = true → ad i = ad j → i = j) ∧ (∀ i, gD S i = true → z ≤ ad i) ∧
  (∀ i k j, gD S i = true → gX S i k = some j → okid S j) ∧ (∀ i, E.1 i = true → gD S i = true) ∧ (∀ i k j, E.2 i k = some j → gX S i k = some j) ∧
  (∀ j, 300 ≤ j → j < 600 → ad j = ac j ∧ gD S j = false)
theorem HW.fx {D : va_G} {cA : Nat → ClassId} {z : Nat} {ac : Nat → Nat} {E : EV} {ad : Nat → Nat} {S : HS} {H : Heap} (h : HW D cA z ac E ad S H) (i : Nat) (hi : E.1 i = true) : gD S i = true := h.2.2.2.2.1 i hi
theorem HW.cst {D : va_G} {cA : Nat → ClassId} {z : Nat} {ac : Nat → Nat} {E : EV} {ad : Nat → Nat} {S : HS} {H : Heap} (h : HW D cA z ac E ad S H) (j : Nat) (h1 : 300 ≤ j) (h2 : j < 600) : ad j = ac j := (h.2.2.2.2.2.2 j h1 h2).1
theorem HW.fn {D : va_G} {cA : Nat → ClassId} {z : Nat} {ac : Nat → Nat} {E : EV} {ad : Nat → Nat} {S : HS} {H : Heap} (h : HW D cA z ac E ad S H) {i k j : Nat} (hi : E.2 i k = some j) : gX S i k = some j := h.2.2.2.2.2.1 i k j hi
theorem HW.okx {D : va_G} {cA : Nat → ClassId} {z : Nat} {ac : Nat → Nat} {E : EV} {ad : Nat → Nat} {S : HS} {H : Heap} (h : HW D cA z ac E ad S H) {i k j : Nat} (hi : gD S i = true) (hx : gX S i k = some j) : okid S j := h.2.2.2.1 i k j hi hx
theorem cellAt.kept {D : va_G} {cA : Nat → ClassId} {ad ad1 : Nat → Nat} {S S1 : HS} {j : Nat} {H H1 : Heap} (h : cellAt D cA ad S j H) (ha : ad1 j = ad j) (hq : H1[ad j]? = H[ad j]?) (hv : ∀ k, vOf ad1 S1 (vt (kd j) k) j k = vOf ad S (vt (kd j) k) j k) : cellAt D cA ad1 S1 j H1 := by
  refine ⟨fun h1 => ?_, fun h1 => ?_⟩
  · rw [ha]
    exact ((h.1 h1).kept hq).to (fun k _ => (hv k).symm)
  · rw [ha, hq, h.2 h1]
    congr 2
    funext k
    exact (hv k).symm
/-- S1 is S but for the slot (i, k) -/
def one (E : EV) (S S1 : HS) (i k : Nat) : Prop :=
  (∀ j, gD S1 j = gD S j) ∧ (∀ j q, ¬ (j = i ∧ q = k) → gF S1 j q = gF S j q ∧ gL S1 j q = gL S j q ∧ gX S1 j q = gX S j q) ∧
  (∀ j, gX S1 i k = some j → okid S j) ∧ (∀ j, E.2 i k = some j → gX S1 i k = some j)
theorem vOf_same {ad : Nat → Nat} {S S1 : HS} {j q : Nat} (h : gF S1 j q = gF S j q ∧ gL S1 j q = gL S j q ∧ gX S1 j q = gX S j q) (t : Nat) : vOf ad S1 t j q = vOf ad S t j q := by
  unfold vOf
  rw [h.1, h.2.1, h.2.2]
theorem okid_same {S S1 : HS} (h : ∀ j, gD S1 j = gD S j) {j : Nat} (ho : okid S j) : okid S1 j := by
  rcases ho with h1 | h1
  · exact Or.inl (by rw [h]; exact h1)
  · exact Or.inr h1
theorem HW.set {D : va_G} {cA : Nat → ClassId} {z : Nat} {ac : Nat → Nat} {E : EV} {ad : Nat → Nat} {S S1 : HS} {H H1 : Heap} {i k : Nat} (h : HW D cA z ac E ad S H) (hi : gD S i = true) (h1 : one E S S1 i k) (hc : cellAt D cA ad S1 i H1) (oq : ∀ q, q ≠ ad i → H1[q]? = H[q]?) : HW D cA z ac E ad S1 H1 := by
  obtain ⟨w1, w2, w3, w4, w5, w6, w7⟩ := h
  obtain ⟨o1, o2, o3, o4⟩ := h1
  refine ⟨fun j hj => ?_, fun a b ha hb => w2 a b (o1 a ▸ ha) (o1 b ▸ hb), fun j hj => w3 j (o1 j ▸ hj), fun j q x hj hx => ?_, fun j hj => by rw [o1]; exact w5 j hj, fun j q x hx => ?_, fun j g1 g2 => ⟨(w7 j g1 g2).1, by rw [o1]; exact (w7 j g1 g2).2⟩⟩
  · by_cases e : j = i
    · rw [e]; exact hc
    · have hj' : gD S j = true := by rw [← o1]; exact hj
      exact (w1 j hj').kept rfl (oq _ (fun q => e (w2 j i hj' hi q))) (fun q => vOf_same (o2 j q (fun z => e z.1)) _)
  · have hj' : gD S j = true := by rw [← o1]; exact hj
    by_cases e : j = i ∧ q = k
    · obtain ⟨rfl, rfl⟩ := e
      exact okid_same o1 (o3 x hx)
    · rw [(o2 j q e).2.2] at hx
      exact okid_same o1 (w4 j q x hj' hx)
  · by_cases e : j = i ∧ q = k
    · obtain ⟨rfl, rfl⟩ := e
      exact o4 x hx
    · rw [(o2 j q e).2.2]
      exact w6 j q x hx
theorem one_F {D : va_G} {cA : Nat → ClassId} {z : Nat} {ac : Nat → Nat} {E : EV} {ad : Nat → Nat} {S : HS} {H : Heap} (h : HW D cA z ac E ad S H) {i k : Nat} (hi : gD S i = true) (v : Int32) : one E S (sF S i k v) i k :=
  ⟨fun _ => rfl, fun j q hq => ⟨if_neg hq, rfl, rfl⟩, fun _ hj => h.okx hi hj, fun _ hj => h.fn hj⟩
theorem one_L {D : va_G} {cA : Nat → ClassId} {z : Nat} {ac : Nat → Nat} {E : EV} {ad : Nat → Nat} {S : HS} {H : Heap} (h : HW D cA z ac E ad S H) {i k : Nat} (hi : gD S i = true) (v : Int64) : one E S (sL S i k v) i k :=
  ⟨fun _ => rfl, fun j q hq => ⟨rfl, if_neg hq, rfl⟩, fun _ hj => h.okx hi hj, fun _ hj => h.fn hj⟩
theorem one_X {E : EV} {S : HS} {i k : Nat} (v : Option Nat) (hv : ∀ j, v = some j → okid S j) (hf : E.2 i k = none) : one E S (sX S i k v) i k :=
  ⟨fun _ => rfl, fun j q hq => ⟨rfl, rfl, if_neg hq⟩, fun j hj => hv j (by rw [← hj]; exact (if_pos ⟨rfl, rfl⟩).symm), fun j hj => by rw [hf] at hj; cases hj⟩
theorem sF_at (S : HS) (i k : Nat) (v : Int32) : gF (sF S i k v) i k = v := if_pos ⟨rfl, rfl⟩
theorem sL_at (S : HS) (i k : Nat) (v : Int64) : gL (sL S i k v) i k = v := if_pos ⟨rfl, rfl⟩
theorem sX_at (S : HS) (i k : Nat) (v : Option Nat) : gX (sX S i k v) i k = v := if_pos ⟨rfl, rfl⟩
-- constants of the launch: texts, the six sorts, two statics of the JDK
def st_T : List (String × Nat × String) := [("TwoLevelParser", 91, "chg"), ("TwoLevelParser", 89, "fun"), ("TwoLevelParser", 93, "nil"), ("TwoLevelParser", 75, "int"), ("TwoLevelParser", 83, "list"), ("TwoLevelParser", 41, "imod"), ("TwoLevelParser", 43, "lmod"), ("TwoLevelParser", 15, "add"), ("TwoLevelParser", 17, "sub"), ("TwoLevelParser", 19, "mul"), ("TwoLevelParser", 21, "div"), ("TwoLevelParser", 23, "rem"), ("TwoLevelParser", 25, "less"), ("TwoLevelParser", 27, "same"), ("TwoLevelParser", 29, "if"), ("TwoLevelParser", 31, "let"), ("TwoLevelParser", 33, "case"), ("TwoLevelParser", 35, "cons"), ("TwoLevelParser", 37, "call"), ("TwoLevelParser", 39, "memo"), ("TwoLevelParser", 45, "read"), ("TwoLevelParser", 47, "write"), ("TwoLevelParser", 49, "jump"), ("TwoLevelParser", 51, ""), ("TwoLevelParser", 53, "eee)"), ("TwoLevelParser", 55, "xee)"), ("TwoLevelParser", 57, "ee(xye))"), ("TwoLevelParser", 59, "f*)"), ("TwoLevelParser", 61, "c)"), ("TwoLevelParser", 63, "exc)"), ("TwoLevelParser", 65, "e)"), ("TwoLevelParser", 67, "ecc)"), ("TwoLevelParser", 69, "xec)"), ("TwoLevelParser", 71, "ec(xyc))"), ("TwoLevelParser", 73, "ee)"), ("TwoLevelParserModel", 198, "fun"), ("TwoLevelParserModel", 200, "chg"), ("TwoLevelParserModel", 142, "int"), ("TwoLevelParserModel", 148, "list"), ("TwoLevelParserModel", 150, "imod"), ("TwoLevelParserModel", 152, "lmod"), ("TwoLevelParserModel", 154, "add"), ("TwoLevelParserModel", 156, "sub"), ("TwoLevelParserModel", 158, "mul"), ("TwoLevelParserModel", 160, "div"), ("TwoLevelParserModel", 162, "rem"), ("TwoLevelParserModel", 164, "less"), ("TwoLevelParserModel", 166, "same"), ("TwoLevelParserModel", 171, "if"), ("TwoLevelParserModel", 173, "let"), ("TwoLevelParserModel", 175, "case"), ("TwoLevelParserModel", 177, "cons"), ("TwoLevelParserModel", 179, "call"), ("TwoLevelParserModel", 181, "memo"), ("TwoLevelParserModel", 183, "read"), ("TwoLevelParserModel", 185, "write"), ("TwoLevelParserModel", 187, "jump"), ("TwoLevelParserModel", 202, "nil")]
def st_B : List (List Int32) := [[99, 104, 103], [102, 117, 110], [110, 105, 108], [105, 110, 116], [108, 105, 115, 116], [105, 109, 111, 100], [108, 109, 111, 100], [97, 100, 100], [115, 117, 98], [109, 117, 108], [100, 105, 118], [114, 101, 109], [108, 101, 115, 115], [115, 97, 109, 101], [105, 102], [108, 101, 116], [99, 97, 115, 101], [99, 111, 110, 115], [99, 97, 108, 108], [109, 101, 109, 111], [114, 101, 97, 100], [119, 114, 105, 116, 101], [106, 117, 109, 112], [], [101, 101, 101, 41], [120, 101, 101, 41], [101, 101, 40, 120, 121, 101, 41, 41], [102, 42, 41], [99, 41], [101, 120, 99, 41], [101, 41], [101, 99, 99, 41], [120, 101, 99, 41], [101, 99, 40, 120, 121, 99, 41, 41], [101, 101, 41], [102, 117, 110], [99, 104, 103], [105, 110, 116], [108, 105, 115, 116], [105, 109, 111, 100], [108, 109, 111, 100], [97, 100, 100], [115, 117, 98], [109, 117, 108], [100, 105, 118], [114, 101, 109], [108, 101, 115, 115], [115, 97, 109, 101], [105, 102], [108, 101, 116], [99, 97, 115, 101], [99, 111, 110, 115], [99, 97, 108, 108], [109, 101, 109, 111], [114, 101, 97, 100], [119, 114, 105, 116, 101], [106, 117, 109, 112], [110, 105, 108]]
def so_N : List String := ["OPEN", "CLOSE", "NAME", "NUMBER", "END", "WRONG"]
abbrev zA (z : Nat) : Nat → Prop := fun q => z ≤ q
def sOK (z : Nat) (bs : List Int32) (a t : Nat) (U : State) : Prop :=
  va_O "java/lang/String" a (zA z) U U.heap ∧ va_OF "java/lang/String" "coder" "B" (.int 0) a (zA z) U U.heap ∧ va_OF "java/lang/String" "value" "[B" (.ref t) a (zA z) U U.heap ∧ va_T .byte t bs.length (fun j => .int (bs.getD j 0)) (zA z) U U.heap
def tyl (cA : Nat → ClassId) : List (ClassId × FieldType) := [(cA 10, .byte), (cA 11, .int), (cA 12, .long), (cA 13, .object "TwoLevelParser$Node"), (cA 14, .object "TwoLevelParser$Definition"), (cA 15, .object "TwoLevelParser$Open")]
/-- what holds of the tables and of the constants -/
def KK (D : va_G) (cA : Nat → ClassId) (z : Nat) (ac : Nat → Nat) (U : State) : Prop :=
  va_K D cls (tyl cA) U ∧ (∀ w ∈ lw_nest, va_Nw w U) ∧
  (∀ (i : Nat) (q : String × Nat × String), st_T[i]? = some q → vk_R q.1 q.2.1 q.2.2 (ac (300 + i)) U ∧ sOK z (st_B.getD i []) (ac (300 + i)) (ac (400 + i)) U) ∧
  va_En "TwoLevelParser$Sort" "LTwoLevelParser$Sort;" so_N [] (fun i => ac (500 + i)) (zA z) U U.heap ∧
  va_Z "java/lang/String" "COMPACT_STRINGS" "Z" (.int 1) (zA z) U U.heap ∧
  va_Zq "jdk/internal/util/Preconditions" "SIOOBE_FORMATTER" "Ljava/util/function/BiFunction;" (zA z) U U.heap ∧
  va_AO "TwoLevelParser$Node" U ∧ va_AO "TwoLevelParser$Definition" U ∧ va_AO "TwoLevelParser$Open" U
theorem lw_nest_warm {s U : State} (hW : s.WarmedH U.vm) {w : Cond} (hw : w ∈ lw_nest) (h : va_Nw w s) : va_Nw w U := by
  have hk := (List.mem_filter.mp hw).2
  cases w <;> first | exact va_Nw.warmF hW h | exact va_Nw.warmM hW h | cases hk
theorem KK.go {D : va_G} {cA : Nat → ClassId} {z : Nat} {ac : Nat → Nat} {s U : State} (h : KK D cA z ac s) (hW : s.WarmedH U.vm) (hq : ∀ a : Nat, a < s.heap.size → ¬ zA z a → U.heap[a]? = s.heap[a]?) : KK D cA z ac U := by
  obtain ⟨h1, h2, h3, h4, h5, h6, h7, h8, h9⟩ := h
  have ha := hW.alike
  refine ⟨va_K.moved ha h1, fun w hw => lw_nest_warm hW hw (h2 w hw), fun i q hi => ⟨(h3 i q hi).1.warm hW, ?_⟩, (va_En.moved ha h4).kept hq, (va_Z.moved ha h5).kept hq, (va_Zq.moved ha h6).kept hq, va_AO.moved ha h7, va_AO.moved ha h8, va_AO.moved ha h9⟩
  obtain ⟨a1, a2, a3, a4⟩ := (h3 i q hi).2
  exact ⟨(va_O.moved ha a1).kept hq, (va_OF.moved ha a2).kept hq, (va_OF.moved ha a3).kept hq, (va_T.moved ha a4).kept hq⟩
/-- the room of a method from which d calls go down -/
abbrev rmD (d mc ms : Nat) : Jvm.Room := { frames := d, cells := mc, slots := ms, locals := 31 * d }
/-- a method's start -/
def PcH (D : va_G) (cA : Nat → ClassId) (z : Nat) (ac : Nat → Nat) (E : EV) (ad : Nat → Nat) (av : List Value) (S : HS) : Array Value → State → Prop := fun v U => v = av.toArray ∧ HW D cA z ac E ad S U.heap ∧ KK D cA z ac U
theorem PcH.blind {D : va_G} {cA : Nat → ClassId} {z : Nat} {ac : Nat → Nat} {E : EV} {ad : Nat → Nat} {av : List Value} {S : HS} : FrameBlind (PcH D cA z ac E ad av S) := by
  intro a U g mk h
  obtain ⟨h1, h2, h3⟩ := h
  exact ⟨h1, h2, h3.go (U := U.calling g mk a) (State.WarmedH.refl U) (fun _ _ _ => rfl)⟩
/-- its end, where it makes nothing -/
def QN (D : va_G) (cA : Nat → ClassId) (z : Nat) (ac : Nat → Nat) (E : EV) (ad : Nat → Nat) (v : Option Value) (S1 : HS) : Array Value → State → Outcome → State → Prop := fun _ st o t =>
  o = .returned v ∧ HW D cA z ac E ad S1 t.heap ∧ st.heap.size ≤ t.heap.size ∧ ∀ q : Nat, q < st.heap.size → ¬ zA z q → t.heap[q]? = st.heap[q]?
/-- what a block of code has around it -/
def CB (p : Program) (s : State) (m : MethodId) (args : Array Value) (c : Code) (meth : Method) (cc : ByteArray) (own : String) (nL : Nat) (rt : Option FieldType) (D : va_G) (cA : Nat → ClassId) (z : Nat) (ac : Nat → Nat) : Prop :=
  CallFix p m c cc nL s args lw_g own ∧ KK D cA z ac s ∧ meth.sig.returnType = rt ∧ meth.locks = false
abbrev GW (p : Program) (l : Launch) (e : Env) (d : Nat) (s : State) (m : MethodId) (args : Array Value) (below : List Frame) (meth : Method) (c : Code) (D : va_G) (cA : Nat → ClassId) (z : Nat) (ac : Nat → Nat) (E : EV) (ad : Nat → Nat) (v : Option Value) (S1 : HS) (H : Heap) (locs : List Loc) (g : JFrame) : Prop :=
  W p l e (rmD d 0 0) s m args below meth c H locs 0 0 (MQ below (QN D cA z ac E ad v S1) args s 0 0 (zA z)) g
-- the plain words of the printed functions
def gd {α : Type} (c : Prop) [Decidable c] (x : Option α) : Option α := if c then x else none
theorem gd_some {α : Type} {c : Prop} [Decidable c] {x : Option α} {y : α} (h : gd c x = some y) : c ∧ x = some y := by
  unfold gd at h
  split at h
  · rename_i hc; exact ⟨hc, h⟩
  · cases h
theorem gd_pos {α : Type} {c : Prop} [Decidable c] (h : c) (x : Option α) : gd c x = x := if_pos h
def lt {α β : Type} (v : α) (k : α → Option β) : Option β := k v
theorem lt_some {α β : Type} {v : α} {k : α → Option β} {y : β} (h : lt v k = some y) : ∃ x, x = v ∧ k x = some y := ⟨v, rfl, h⟩
theorem ite_t {α : Type} {c : Prop} [Decidable c] {a b : α} {y : α} (hc : c) (h : (if c then a else b) = y) : a = y := by rw [if_pos hc] at h; exact h
theorem ite_f {α : Type} {c : Prop} [Decidable c] {a b : α} {y : α} (hc : ¬ c) (h : (if c then a else b) = y) : b = y := by rw [if_neg hc] at h; exact h
def ob {α β : Type} (x : Option α) (k : α → Option β) : Option β := match x with | some a => k a | none => none
theorem ob_some {α β : Type} {x : Option α} {k : α → Option β} {y : β} (h : ob x k = some y) : ∃ a, x = some a ∧ k a = some y := by
  cases x with
  | none => cases h
  | some a => exact ⟨a, rfl, h⟩
abbrev inR (x : Int32) (n : Nat) : Prop := ¬ (x < 0 ∨ n ≤ x.toNatClampNeg)
/-- the bytes of the text a -/
def sB (a : Nat) : List Int32 := st_B.getD (a - 300) []
abbrev isT (a : Nat) : Prop := 300 ≤ a ∧ a < 358
abbrev isSo (a : Nat) : Prop := 500 ≤ a ∧ a < 506
theorem st_len : st_T.length = 58 := by decide +kernel
theorem st_ascii : ∀ bs ∈ st_B, ∀ b ∈ bs, ((b &&& 255).toUInt32 % 65536).toInt32 = b := by decide +kernel
theorem st_at {a : Nat} (h : isT a) : ∃ q, st_T[a - 300]? = some q := by
  have : a - 300 < st_T.length := by rw [st_len]; omega
  exact ⟨_, List.getElem?_eq_getElem this⟩
