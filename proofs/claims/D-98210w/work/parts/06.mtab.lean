/-! THE MODEL: its fields, arrays, links, methods (printed by gen/mtab.py) -/
set_option maxRecDepth 100000
def RX19 : String := "KnowLocksModel"
def TX19 : u_T := fun k => match k with
  | 0 => ("KnowLocksModel", "thrown", "I", false)
  | 1 => ("KnowLocksModel", "taped", "I", false)
  | 2 => ("KnowLocksModel", "tape", "[I", true)
  | 3 => ("KnowLocksModel", "size", "I", false)
  | 4 => ("KnowLocksModel", "place", "I", false)
  | 5 => ("KnowLocksModel", "begin", "I", false)
  | 6 => ("KnowLocksModel", "token", "I", false)
  | 7 => ("KnowLocksModel", "word", "J", false)
  | 8 => ("KnowLocksModel", "told", "I", false)
  | 9 => ("KnowLocksModel", "wrong", "I", false)
  | 10 => ("KnowLocksModel", "quarter", "[I", true)
  | 11 => ("KnowLocksModel", "handName", "[J", true)
  | 12 => ("KnowLocksModel", "doorName", "[J", true)
  | 13 => ("KnowLocksModel", "mark", "[I", true)
  | 14 => ("KnowLocksModel", "handKind", "[I", true)
  | 15 => ("KnowLocksModel", "slip", "[I", true)
  | 16 => ("KnowLocksModel", "trust", "[I", true)
  | 17 => ("KnowLocksModel", "doorKind", "[I", true)
  | 18 => ("KnowLocksModel", "nearOf", "[I", true)
  | 19 => ("KnowLocksModel", "streetA", "[I", true)
  | 20 => ("KnowLocksModel", "streetB", "[I", true)
  | 21 => ("KnowLocksModel", "lineFrom", "[I", true)
  | 22 => ("KnowLocksModel", "lineTo", "[I", true)
  | 23 => ("KnowLocksModel", "codes", "[I", true)
  | 24 => ("KnowLocksModel", "past", "[I", true)
  | 25 => ("KnowLocksModel", "pastHand", "[I", true)
  | 26 => ("KnowLocksModel", "pastDoor", "[I", true)
  | 27 => ("KnowLocksModel", "pastOpen", "[I", true)
  | 28 => ("KnowLocksModel", "code", "I", false)
  | 29 => ("KnowLocksModel", "told0", "I", false)
  | 30 => ("KnowLocksModel", "isFeel", "Z", false)
  | 31 => ("KnowLocksModel", "opened", "[I", true)
  | 32 => ("KnowLocksModel", "compared", "[Z", true)
  | 33 => ("KnowLocksModel", "kept", "[I", true)
  | 34 => ("KnowLocksModel", "keptBy", "[I", true)
  | 35 => ("KnowLocksModel", "ahead", "[I", true)
  | 36 => ("KnowLocksModel", "against", "[I", true)
  | 37 => ("KnowLocksModel", "sum", "[I", true)
  | 38 => ("KnowLocksModel", "sumBy", "[I", true)
  | 39 => ("KnowLocksModel", "term", "[I", true)
  | 40 => ("KnowLocksModel", "termBy", "[I", true)
  | 41 => ("KnowLocksModel", "byNot", "[I", true)
  | 42 => ("KnowLocksModel", "valueOf", "[I", true)
  | 43 => ("KnowLocksModel", "given", "I", false)
  | 44 => ("KnowLocksModel", "s", "[I", true)
  | 45 => ("KnowLocksModel", "saved", "[I", true)
  | 46 => ("KnowLocksModel", "marked", "[I", true)
  | 47 => ("KnowLocksModel", "undone", "[I", true)
  | 48 => ("KnowLocksModel", "done", "I", false)
  | 49 => ("KnowLocksModel", "slips", "[I", true)
  | 50 => ("KnowLocksModel", "felt", "[I", true)
  | 51 => ("KnowLocksModel", "tells", "[I", true)
  | 52 => ("KnowLocksModel", "isTelling", "[Z", true)
  | 53 => ("KnowLocksModel", "row", "[I", true)
  | 54 => ("KnowLocksModel", "openBy", "[I", true)
  | 55 => ("KnowLocksModel", "slipRows", "I", false)
  | 56 => ("KnowLocksModel", "shutBy", "[I", true)
  | 57 => ("KnowLocksModel", "firstWrong", "I", false)
  | 58 => ("KnowLocksModel", "openTo", "[I", true)
  | 59 => ("KnowLocksModel", "pays", "[I", true)
  | 60 => ("KnowLocksModel", "gains", "[I", true)
  | 61 => ("KnowLocksModel", "g", "J", false)
  | _ => ("KnowLocksModel", "isLaid", "[Z", true)
def tyX19 : Nat → FieldType := fun k => match k with
  | 0 => .int
  | 1 => .int
  | 2 => .array .int
  | 3 => .int
  | 4 => .int
  | 5 => .int
  | 6 => .int
  | 7 => .long
  | 8 => .int
  | 9 => .int
  | 10 => .array .int
  | 11 => .array .long
  | 12 => .array .long
  | 13 => .array .int
  | 14 => .array .int
  | 15 => .array .int
  | 16 => .array .int
  | 17 => .array .int
  | 18 => .array .int
  | 19 => .array .int
  | 20 => .array .int
  | 21 => .array .int
  | 22 => .array .int
  | 23 => .array .int
  | 24 => .array .int
  | 25 => .array .int
  | 26 => .array .int
  | 27 => .array .int
  | 28 => .int
  | 29 => .int
  | 30 => .boolean
  | 31 => .array .int
  | 32 => .array .boolean
  | 33 => .array .int
  | 34 => .array .int
  | 35 => .array .int
  | 36 => .array .int
  | 37 => .array .int
  | 38 => .array .int
  | 39 => .array .int
  | 40 => .array .int
  | 41 => .array .int
  | 42 => .array .int
  | 43 => .int
  | 44 => .array .int
  | 45 => .array .int
  | 46 => .array .int
  | 47 => .array .int
  | 48 => .int
  | 49 => .array .int
  | 50 => .array .int
  | 51 => .array .int
  | 52 => .array .boolean
  | 53 => .array .int
  | 54 => .array .int
  | 55 => .int
  | 56 => .array .int
  | 57 => .int
  | 58 => .array .int
  | 59 => .array .int
  | 60 => .array .int
  | 61 => .long
  | _ => .array .boolean
abbrev wsX190 : List Cond := u_ws RX19 TX19 63
theorem nmX19 : ∀ a, a < 63 → ∀ b, b < 63 → a ≠ b → (TX19 a).2.1 ≠ (TX19 b).2.1 := by decide +kernel
theorem tyX19_ok : ∀ k, k < 63 → parseFieldDescriptor (TX19 k).2.2.1 = some (tyX19 k) := by decide +kernel
theorem in_X19 : ∀ w ∈ wsX190, w ∈ lw_all := lw_in wsX190 [2208, 2210, 2212, 2214, 2216, 2218, 2220, 2222, 2224, 2226, 2228, 2230, 2232, 2234, 2236, 2238, 2240, 2242, 2244, 2246, 2248, 2250, 2252, 2254, 2256, 2258, 2260, 2262, 2264, 2266, 2268, 2270, 2272, 2274, 2276, 2278, 2280, 2282, 2284, 2286, 2288, 2290, 2292, 2294, 2296, 2298, 2300, 2302, 2304, 2306, 2308, 2310, 2312, 2314, 2316, 2318, 2320, 2322, 2324, 2326, 2328, 2330, 2332] (by decide +kernel) (by decide +kernel)
/-- a field's kind: 0 int, 1 boolean, 2 long, n + 2 the array of number n -/
def fvk (k : Nat) : Nat := ([0, 0, 3, 0, 0, 0, 0, 2, 0, 0, 4, 5, 6, 7, 8, 9, 10, 11, 12, 13, 14, 15, 16, 17, 18, 19, 20, 21, 0, 0, 1, 22, 23, 24, 25, 26, 27, 28, 29, 30, 31, 32, 33, 0, 34, 35, 36, 37, 0, 38, 39, 40, 41, 42, 43, 0, 44, 0, 45, 46, 47, 2, 48] : List Nat).getD k 0
/-- an array's length, and its elements' kind -/
def alen (n : Nat) : Nat := ([0, 1000, 36, 42, 30, 168, 42, 42, 42, 30, 30, 60, 60, 12, 12, 6000, 18, 216, 216, 216, 7, 7, 7, 7, 7, 7, 7, 7, 7, 7, 7, 20, 402, 2412, 1608, 6432, 4, 4, 20, 5, 4, 100, 100, 7, 63, 63, 4] : List Nat).getD n 0
def atyp (n : Nat) : Nat := ([9, 0, 0, 2, 2, 0, 0, 0, 0, 0, 0, 0, 0, 0, 0, 0, 0, 0, 0, 0, 0, 1, 0, 0, 0, 0, 0, 0, 0, 0, 0, 0, 0, 0, 0, 0, 0, 0, 0, 1, 0, 0, 0, 0, 0, 0, 1] : List Nat).getD n 9
def fTab : List (Nat × Nat) := [(7, 2), (13, 10), (16, 11), (20, 12), (23, 13), (26, 14), (29, 15), (32, 16), (35, 17), (38, 18), (41, 19), (44, 20), (47, 21), (50, 22), (53, 23), (56, 24), (59, 25), (62, 26), (65, 27), (68, 31), (71, 32), (75, 33), (78, 34), (81, 35), (84, 36), (87, 37), (90, 38), (93, 39), (96, 40), (99, 41), (102, 42), (105, 44), (108, 45), (111, 46), (114, 47), (117, 49), (120, 50), (123, 51), (126, 52), (129, 53), (132, 54), (135, 56), (138, 58), (141, 59), (144, 60), (147, 62), (154, 0), (160, 1), (163, 3), (166, 4), (169, 5), (172, 7), (176, 8), (179, 6), (190, 9), (193, 28), (200, 30), (300, 43), (341, 29), (405, 48), (509, 55), (521, 57), (543, 61)]
def fcp (idx : Nat) : Option Nat := fTab.lookup idx
def okF (x : Nat × Nat) : Prop := Cond.fieldLink RX19 x.1 RX19 (TX19 x.2).2.1 (TX19 x.2).2.2.1 ∈ lw_all ∧ x.2 < 63
theorem fTab_ok : ∀ x ∈ fTab, okF x := List.forall_mem_cons.mpr ⟨⟨(lw_g (lw_at lw_m9 99 rfl) rfl), by decide⟩, List.forall_mem_cons.mpr ⟨⟨(lw_g (lw_at lw_m9 107 rfl) rfl), by decide⟩, List.forall_mem_cons.mpr ⟨⟨(lw_g (lw_at lw_m9 108 rfl) rfl), by decide⟩, List.forall_mem_cons.mpr ⟨⟨(lw_g (lw_at lw_m9 109 rfl) rfl), by decide⟩, List.forall_mem_cons.mpr ⟨⟨(lw_g (lw_at lw_m9 110 rfl) rfl), by decide⟩, List.forall_mem_cons.mpr ⟨⟨(lw_g (lw_at lw_m9 111 rfl) rfl), by decide⟩, List.forall_mem_cons.mpr ⟨⟨(lw_g (lw_at lw_m9 112 rfl) rfl), by decide⟩, List.forall_mem_cons.mpr ⟨⟨(lw_g (lw_at lw_m9 113 rfl) rfl), by decide⟩, List.forall_mem_cons.mpr ⟨⟨(lw_g (lw_at lw_m9 114 rfl) rfl), by decide⟩, List.forall_mem_cons.mpr ⟨⟨(lw_g (lw_at lw_m9 115 rfl) rfl), by decide⟩, List.forall_mem_cons.mpr ⟨⟨(lw_g (lw_at lw_m9 116 rfl) rfl), by decide⟩, List.forall_mem_cons.mpr ⟨⟨(lw_g (lw_at lw_m9 117 rfl) rfl), by decide⟩, List.forall_mem_cons.mpr ⟨⟨(lw_g (lw_at lw_m9 118 rfl) rfl), by decide⟩, List.forall_mem_cons.mpr ⟨⟨(lw_g (lw_at lw_m9 119 rfl) rfl), by decide⟩, List.forall_mem_cons.mpr ⟨⟨(lw_g (lw_at lw_m9 120 rfl) rfl), by decide⟩, List.forall_mem_cons.mpr ⟨⟨(lw_g (lw_at lw_m9 121 rfl) rfl), by decide⟩, List.forall_mem_cons.mpr ⟨⟨(lw_g (lw_at lw_m9 122 rfl) rfl), by decide⟩, List.forall_mem_cons.mpr ⟨⟨(lw_g (lw_at lw_m9 123 rfl) rfl), by decide⟩, List.forall_mem_cons.mpr ⟨⟨(lw_g (lw_at lw_m9 124 rfl) rfl), by decide⟩, List.forall_mem_cons.mpr ⟨⟨(lw_g (lw_at lw_m9 128 rfl) rfl), by decide⟩, List.forall_mem_cons.mpr ⟨⟨(lw_g (lw_at lw_m9 129 rfl) rfl), by decide⟩, List.forall_mem_cons.mpr ⟨⟨(lw_g (lw_at lw_m9 130 rfl) rfl), by decide⟩, List.forall_mem_cons.mpr ⟨⟨(lw_g (lw_at lw_m9 131 rfl) rfl), by decide⟩, List.forall_mem_cons.mpr ⟨⟨(lw_g (lw_at lw_m9 132 rfl) rfl), by decide⟩, List.forall_mem_cons.mpr ⟨⟨(lw_g (lw_at lw_m9 133 rfl) rfl), by decide⟩, List.forall_mem_cons.mpr ⟨⟨(lw_g (lw_at lw_m9 134 rfl) rfl), by decide⟩, List.forall_mem_cons.mpr ⟨⟨(lw_g (lw_at lw_m9 135 rfl) rfl), by decide⟩, List.forall_mem_cons.mpr ⟨⟨(lw_g (lw_at lw_m9 136 rfl) rfl), by decide⟩, List.forall_mem_cons.mpr ⟨⟨(lw_g (lw_at lw_m9 137 rfl) rfl), by decide⟩, List.forall_mem_cons.mpr ⟨⟨(lw_g (lw_at lw_m9 138 rfl) rfl), by decide⟩, List.forall_mem_cons.mpr ⟨⟨(lw_g (lw_at lw_m9 139 rfl) rfl), by decide⟩, List.forall_mem_cons.mpr ⟨⟨(lw_g (lw_at lw_m9 141 rfl) rfl), by decide⟩, List.forall_mem_cons.mpr ⟨⟨(lw_g (lw_at lw_m9 142 rfl) rfl), by decide⟩, List.forall_mem_cons.mpr ⟨⟨(lw_g (lw_at lw_m9 143 rfl) rfl), by decide⟩, List.forall_mem_cons.mpr ⟨⟨(lw_g (lw_at lw_m9 144 rfl) rfl), by decide⟩, List.forall_mem_cons.mpr ⟨⟨(lw_g (lw_at lw_m9 146 rfl) rfl), by decide⟩, List.forall_mem_cons.mpr ⟨⟨(lw_g (lw_at lw_m9 147 rfl) rfl), by decide⟩, List.forall_mem_cons.mpr ⟨⟨(lw_g (lw_at lw_m9 148 rfl) rfl), by decide⟩, List.forall_mem_cons.mpr ⟨⟨(lw_g (lw_at lw_m9 149 rfl) rfl), by decide⟩, List.forall_mem_cons.mpr ⟨⟨(lw_g (lw_at lw_m9 150 rfl) rfl), by decide⟩, List.forall_mem_cons.mpr ⟨⟨(lw_g (lw_at lw_m9 151 rfl) rfl), by decide⟩, List.forall_mem_cons.mpr ⟨⟨(lw_g (lw_at lw_m9 153 rfl) rfl), by decide⟩, List.forall_mem_cons.mpr ⟨⟨(lw_g (lw_at lw_m9 155 rfl) rfl), by decide⟩, List.forall_mem_cons.mpr ⟨⟨(lw_g (lw_at lw_m9 156 rfl) rfl), by decide⟩, List.forall_mem_cons.mpr ⟨⟨(lw_g (lw_at lw_m9 157 rfl) rfl), by decide⟩, List.forall_mem_cons.mpr ⟨⟨(lw_g (lw_at lw_m9 159 rfl) rfl), by decide⟩, List.forall_mem_cons.mpr ⟨⟨(lw_g (lw_at lw_m9 97 rfl) rfl), by decide⟩, List.forall_mem_cons.mpr ⟨⟨(lw_g (lw_at lw_m9 98 rfl) rfl), by decide⟩, List.forall_mem_cons.mpr ⟨⟨(lw_g (lw_at lw_m9 100 rfl) rfl), by decide⟩, List.forall_mem_cons.mpr ⟨⟨(lw_g (lw_at lw_m9 101 rfl) rfl), by decide⟩, List.forall_mem_cons.mpr ⟨⟨(lw_g (lw_at lw_m9 102 rfl) rfl), by decide⟩, List.forall_mem_cons.mpr ⟨⟨(lw_g (lw_at lw_m9 104 rfl) rfl), by decide⟩, List.forall_mem_cons.mpr ⟨⟨(lw_g (lw_at lw_m9 105 rfl) rfl), by decide⟩, List.forall_mem_cons.mpr ⟨⟨(lw_g (lw_at lw_m9 103 rfl) rfl), by decide⟩, List.forall_mem_cons.mpr ⟨⟨(lw_g (lw_at lw_m9 106 rfl) rfl), by decide⟩, List.forall_mem_cons.mpr ⟨⟨(lw_g (lw_at lw_m9 125 rfl) rfl), by decide⟩, List.forall_mem_cons.mpr ⟨⟨(lw_g (lw_at lw_m9 127 rfl) rfl), by decide⟩, List.forall_mem_cons.mpr ⟨⟨(lw_g (lw_at lw_m9 140 rfl) rfl), by decide⟩, List.forall_mem_cons.mpr ⟨⟨(lw_g (lw_at lw_m9 126 rfl) rfl), by decide⟩, List.forall_mem_cons.mpr ⟨⟨(lw_g (lw_at lw_m9 145 rfl) rfl), by decide⟩, List.forall_mem_cons.mpr ⟨⟨(lw_g (lw_at lw_m9 152 rfl) rfl), by decide⟩, List.forall_mem_cons.mpr ⟨⟨(lw_g (lw_at lw_m9 154 rfl) rfl), by decide⟩, List.forall_mem_cons.mpr ⟨⟨(lw_g (lw_at lw_m9 158 rfl) rfl), by decide⟩, fun _ h => absurd h List.not_mem_nil⟩⟩⟩⟩⟩⟩⟩⟩⟩⟩⟩⟩⟩⟩⟩⟩⟩⟩⟩⟩⟩⟩⟩⟩⟩⟩⟩⟩⟩⟩⟩⟩⟩⟩⟩⟩⟩⟩⟩⟩⟩⟩⟩⟩⟩⟩⟩⟩⟩⟩⟩⟩⟩⟩⟩⟩⟩⟩⟩⟩⟩⟩⟩
theorem fcp_7 : fcp 7 = some 2 := rfl
theorem fcp_13 : fcp 13 = some 10 := rfl
theorem fcp_16 : fcp 16 = some 11 := rfl
theorem fcp_20 : fcp 20 = some 12 := rfl
theorem fcp_23 : fcp 23 = some 13 := rfl
theorem fcp_26 : fcp 26 = some 14 := rfl
theorem fcp_29 : fcp 29 = some 15 := rfl
theorem fcp_32 : fcp 32 = some 16 := rfl
theorem fcp_35 : fcp 35 = some 17 := rfl
theorem fcp_38 : fcp 38 = some 18 := rfl
theorem fcp_41 : fcp 41 = some 19 := rfl
theorem fcp_44 : fcp 44 = some 20 := rfl
theorem fcp_47 : fcp 47 = some 21 := rfl
theorem fcp_50 : fcp 50 = some 22 := rfl
theorem fcp_53 : fcp 53 = some 23 := rfl
theorem fcp_56 : fcp 56 = some 24 := rfl
theorem fcp_59 : fcp 59 = some 25 := rfl
theorem fcp_62 : fcp 62 = some 26 := rfl
theorem fcp_65 : fcp 65 = some 27 := rfl
theorem fcp_68 : fcp 68 = some 31 := rfl
theorem fcp_71 : fcp 71 = some 32 := rfl
theorem fcp_75 : fcp 75 = some 33 := rfl
theorem fcp_78 : fcp 78 = some 34 := rfl
theorem fcp_81 : fcp 81 = some 35 := rfl
theorem fcp_84 : fcp 84 = some 36 := rfl
theorem fcp_87 : fcp 87 = some 37 := rfl
theorem fcp_90 : fcp 90 = some 38 := rfl
theorem fcp_93 : fcp 93 = some 39 := rfl
theorem fcp_96 : fcp 96 = some 40 := rfl
theorem fcp_99 : fcp 99 = some 41 := rfl
theorem fcp_102 : fcp 102 = some 42 := rfl
theorem fcp_105 : fcp 105 = some 44 := rfl
theorem fcp_108 : fcp 108 = some 45 := rfl
theorem fcp_111 : fcp 111 = some 46 := rfl
theorem fcp_114 : fcp 114 = some 47 := rfl
theorem fcp_117 : fcp 117 = some 49 := rfl
theorem fcp_120 : fcp 120 = some 50 := rfl
theorem fcp_123 : fcp 123 = some 51 := rfl
theorem fcp_126 : fcp 126 = some 52 := rfl
theorem fcp_129 : fcp 129 = some 53 := rfl
theorem fcp_132 : fcp 132 = some 54 := rfl
theorem fcp_135 : fcp 135 = some 56 := rfl
theorem fcp_138 : fcp 138 = some 58 := rfl
theorem fcp_141 : fcp 141 = some 59 := rfl
theorem fcp_144 : fcp 144 = some 60 := rfl
theorem fcp_147 : fcp 147 = some 62 := rfl
theorem fcp_154 : fcp 154 = some 0 := rfl
theorem fcp_160 : fcp 160 = some 1 := rfl
theorem fcp_163 : fcp 163 = some 3 := rfl
theorem fcp_166 : fcp 166 = some 4 := rfl
theorem fcp_169 : fcp 169 = some 5 := rfl
theorem fcp_172 : fcp 172 = some 7 := rfl
theorem fcp_176 : fcp 176 = some 8 := rfl
theorem fcp_179 : fcp 179 = some 6 := rfl
theorem fcp_190 : fcp 190 = some 9 := rfl
theorem fcp_193 : fcp 193 = some 28 := rfl
theorem fcp_200 : fcp 200 = some 30 := rfl
theorem fcp_300 : fcp 300 = some 43 := rfl
theorem fcp_341 : fcp 341 = some 29 := rfl
theorem fcp_405 : fcp 405 = some 48 := rfl
theorem fcp_509 : fcp 509 = some 55 := rfl
theorem fcp_521 : fcp 521 = some 57 := rfl
theorem fcp_543 : fcp 543 = some 61 := rfl
def kTab : List (Nat × Int64) := [(158, 255), (186, 27), (188, 96), (196, 168984), (198, 2968), (204, 257105), (206, 12387257), (208, 223845421), (210, 10998956), (212, 10815598), (214, 4419), (220, 10631), (239, 1111), (241, 423), (252, 158575), (254, 6941854), (256, 382984), (258, 90090), (260, 279252), (262, 283616147), (264, 108802051), (266, 4134649), (268, 555), (270, 6476936), (272, 121890), (274, 8434683), (276, 256855), (278, 1758676), (280, 3328), (282, 410684), (284, 259565), (286, 5496521294), (288, 51442444), (290, 1755475), (292, 5505641866), (294, 40484), (371, 380396), (373, 15091), (378, 7622660), (546, 1103515245), (548, 12345), (550, 2147483648), (552, 65536)]
def kcp (idx : Nat) : Option Int64 := kTab.lookup idx
theorem kTab_ok : ∀ x ∈ kTab, Cond.constantLong RX19 x.1 x.2 ∈ lw_all := List.forall_mem_cons.mpr ⟨(lw_g (lw_at lw_m10 55 rfl) rfl), List.forall_mem_cons.mpr ⟨(lw_g (lw_at lw_m10 76 rfl) rfl), List.forall_mem_cons.mpr ⟨(lw_g (lw_at lw_m10 77 rfl) rfl), List.forall_mem_cons.mpr ⟨(lw_g (lw_at lw_m10 203 rfl) rfl), List.forall_mem_cons.mpr ⟨(lw_g (lw_at lw_m10 204 rfl) rfl), List.forall_mem_cons.mpr ⟨(lw_g (lw_at lw_m10 205 rfl) rfl), List.forall_mem_cons.mpr ⟨(lw_g (lw_at lw_m10 206 rfl) rfl), List.forall_mem_cons.mpr ⟨(lw_g (lw_at lw_m10 207 rfl) rfl), List.forall_mem_cons.mpr ⟨(lw_g (lw_at lw_m10 101 rfl) rfl), List.forall_mem_cons.mpr ⟨(lw_g (lw_at lw_m10 208 rfl) rfl), List.forall_mem_cons.mpr ⟨(lw_g (lw_at lw_m10 209 rfl) rfl), List.forall_mem_cons.mpr ⟨(lw_g (lw_at lw_m10 121 rfl) rfl), List.forall_mem_cons.mpr ⟨(lw_g (lw_at lw_m10 122 rfl) rfl), List.forall_mem_cons.mpr ⟨(lw_g (lw_at lw_m10 123 rfl) rfl), List.forall_mem_cons.mpr ⟨(lw_g (lw_at lw_m10 78 rfl) rfl), List.forall_mem_cons.mpr ⟨(lw_g (lw_at lw_m10 99 rfl) rfl), List.forall_mem_cons.mpr ⟨(lw_g (lw_at lw_m10 100 rfl) rfl), List.forall_mem_cons.mpr ⟨(lw_g (lw_at lw_m10 102 rfl) rfl), List.forall_mem_cons.mpr ⟨(lw_g (lw_at lw_m10 103 rfl) rfl), List.forall_mem_cons.mpr ⟨(lw_g (lw_at lw_m10 104 rfl) rfl), List.forall_mem_cons.mpr ⟨(lw_g (lw_at lw_m10 105 rfl) rfl), List.forall_mem_cons.mpr ⟨(lw_g (lw_at lw_m10 106 rfl) rfl), List.forall_mem_cons.mpr ⟨(lw_g (lw_at lw_m10 107 rfl) rfl), List.forall_mem_cons.mpr ⟨(lw_g (lw_at lw_m10 108 rfl) rfl), List.forall_mem_cons.mpr ⟨(lw_g (lw_at lw_m10 109 rfl) rfl), List.forall_mem_cons.mpr ⟨(lw_g (lw_at lw_m10 110 rfl) rfl), List.forall_mem_cons.mpr ⟨(lw_g (lw_at lw_m10 111 rfl) rfl), List.forall_mem_cons.mpr ⟨(lw_g (lw_at lw_m10 112 rfl) rfl), List.forall_mem_cons.mpr ⟨(lw_g (lw_at lw_m10 113 rfl) rfl), List.forall_mem_cons.mpr ⟨(lw_g (lw_at lw_m10 114 rfl) rfl), List.forall_mem_cons.mpr ⟨(lw_g (lw_at lw_m10 115 rfl) rfl), List.forall_mem_cons.mpr ⟨(lw_g (lw_at lw_m10 116 rfl) rfl), List.forall_mem_cons.mpr ⟨(lw_g (lw_at lw_m10 117 rfl) rfl), List.forall_mem_cons.mpr ⟨(lw_g (lw_at lw_m10 118 rfl) rfl), List.forall_mem_cons.mpr ⟨(lw_g (lw_at lw_m10 119 rfl) rfl), List.forall_mem_cons.mpr ⟨(lw_g (lw_at lw_m10 120 rfl) rfl), List.forall_mem_cons.mpr ⟨(lw_g (lw_at lw_m11 1 rfl) rfl), List.forall_mem_cons.mpr ⟨(lw_g (lw_at lw_m10 236 rfl) rfl), List.forall_mem_cons.mpr ⟨(lw_g (lw_at lw_m11 2 rfl) rfl), List.forall_mem_cons.mpr ⟨(lw_g (lw_at lw_m12 34 rfl) rfl), List.forall_mem_cons.mpr ⟨(lw_g (lw_at lw_m12 35 rfl) rfl), List.forall_mem_cons.mpr ⟨(lw_g (lw_at lw_m12 36 rfl) rfl), List.forall_mem_cons.mpr ⟨(lw_g (lw_at lw_m12 37 rfl) rfl), fun _ h => absurd h List.not_mem_nil⟩⟩⟩⟩⟩⟩⟩⟩⟩⟩⟩⟩⟩⟩⟩⟩⟩⟩⟩⟩⟩⟩⟩⟩⟩⟩⟩⟩⟩⟩⟩⟩⟩⟩⟩⟩⟩⟩⟩⟩⟩⟩⟩
theorem kcp_158 : kcp 158 = some 255 := rfl
theorem kcp_186 : kcp 186 = some 27 := rfl
theorem kcp_188 : kcp 188 = some 96 := rfl
theorem kcp_196 : kcp 196 = some 168984 := rfl
theorem kcp_198 : kcp 198 = some 2968 := rfl
theorem kcp_204 : kcp 204 = some 257105 := rfl
theorem kcp_206 : kcp 206 = some 12387257 := rfl
theorem kcp_208 : kcp 208 = some 223845421 := rfl
theorem kcp_210 : kcp 210 = some 10998956 := rfl
theorem kcp_212 : kcp 212 = some 10815598 := rfl
theorem kcp_214 : kcp 214 = some 4419 := rfl
theorem kcp_220 : kcp 220 = some 10631 := rfl
theorem kcp_239 : kcp 239 = some 1111 := rfl
theorem kcp_241 : kcp 241 = some 423 := rfl
theorem kcp_252 : kcp 252 = some 158575 := rfl
theorem kcp_254 : kcp 254 = some 6941854 := rfl
theorem kcp_256 : kcp 256 = some 382984 := rfl
theorem kcp_258 : kcp 258 = some 90090 := rfl
theorem kcp_260 : kcp 260 = some 279252 := rfl
theorem kcp_262 : kcp 262 = some 283616147 := rfl
theorem kcp_264 : kcp 264 = some 108802051 := rfl
theorem kcp_266 : kcp 266 = some 4134649 := rfl
theorem kcp_268 : kcp 268 = some 555 := rfl
theorem kcp_270 : kcp 270 = some 6476936 := rfl
theorem kcp_272 : kcp 272 = some 121890 := rfl
theorem kcp_274 : kcp 274 = some 8434683 := rfl
theorem kcp_276 : kcp 276 = some 256855 := rfl
theorem kcp_278 : kcp 278 = some 1758676 := rfl
theorem kcp_280 : kcp 280 = some 3328 := rfl
theorem kcp_282 : kcp 282 = some 410684 := rfl
theorem kcp_284 : kcp 284 = some 259565 := rfl
theorem kcp_286 : kcp 286 = some 5496521294 := rfl
theorem kcp_288 : kcp 288 = some 51442444 := rfl
theorem kcp_290 : kcp 290 = some 1755475 := rfl
theorem kcp_292 : kcp 292 = some 5505641866 := rfl
theorem kcp_294 : kcp 294 = some 40484 := rfl
theorem kcp_371 : kcp 371 = some 380396 := rfl
theorem kcp_373 : kcp 373 = some 15091 := rfl
theorem kcp_378 : kcp 378 = some 7622660 := rfl
theorem kcp_546 : kcp 546 = some 1103515245 := rfl
theorem kcp_548 : kcp 548 = some 12345 := rfl
theorem kcp_550 : kcp 550 = some 2147483648 := rfl
theorem kcp_552 : kcp 552 = some 65536 := rfl
abbrev MdT : Type := MethodName × ByteArray × Option FieldType × Nat × Nat × Bool
/-- a callee of the Model's: its links stand in the tables -/
def okM (x : Nat × MdT) : Prop := Cond.methodLink RX19 x.1 x.2.1 ∈ lw_all ∧ Cond.code x.2.1 x.2.2.1 x.2.2.2.2.1 x.2.2.2.1 ∈ lw_all ∧ x.2.1.cls = RX19 ∧ (parseMethodDescriptor x.2.1.desc).map (fun d => d.parameters.length) = some x.2.2.2.2.2.1 ∧ x.2.2.2.2.1 ≤ 40 ∧ (x.2.2.2.2.2.2 = true → Cond.static x.2.1 ∈ lw_all) ∧ (x.2.2.2.2.2.2 = false → Cond.instanceMethod x.2.1 ∈ lw_all ∧ Cond.selects RX19 x.2.1 x.2.1 ∈ lw_all)
theorem okm_150 : okM (150, ⟨RX19, "plain", "(I)V"⟩, prog_43_method_14_code, none, 3, 1, false) := ⟨(lw_g (lw_at lw_m9 93 rfl) rfl), (lw_g (lw_at lw_m9 96 rfl) rfl), rfl, by decide +kernel, by decide, (fun h => by cases h), fun _ => ⟨(lw_g (lw_at lw_m9 95 rfl) rfl), qs55⟩⟩
theorem okm_182 : okM (182, ⟨RX19, "signAt", "(I)I"⟩, prog_43_method_9_code, some .int, 2, 1, false) := ⟨(lw_g (lw_at lw_m10 72 rfl) rfl), (lw_g (lw_at lw_m10 75 rfl) rfl), rfl, by decide +kernel, by decide, (fun h => by cases h), fun _ => ⟨(lw_g (lw_at lw_m10 74 rfl) rfl), qs59⟩⟩
theorem okm_216 : okM (216, ⟨RX19, "fact", "()I"⟩, prog_43_method_16_code, some .int, 1, 0, false) := ⟨(lw_g (lw_at lw_m10 199 rfl) rfl), (lw_g (lw_at lw_m10 202 rfl) rfl), rfl, by decide +kernel, by decide, (fun h => by cases h), fun _ => ⟨(lw_g (lw_at lw_m10 201 rfl) rfl), qs83⟩⟩
theorem okm_222 : okM (222, ⟨RX19, "isWord", "(J)Z"⟩, prog_43_method_11_code, some .boolean, 3, 1, false) := ⟨(lw_g (lw_at lw_m10 79 rfl) rfl), (lw_g (lw_at lw_m10 82 rfl) rfl), rfl, by decide +kernel, by decide, (fun h => by cases h), fun _ => ⟨(lw_g (lw_at lw_m10 81 rfl) rfl), qs60⟩⟩
theorem okm_226 : okM (226, ⟨RX19, "isSign", "(I)Z"⟩, prog_43_method_12_code, some .boolean, 2, 1, false) := ⟨(lw_g (lw_at lw_m10 159 rfl) rfl), (lw_g (lw_at lw_m10 162 rfl) rfl), rfl, by decide +kernel, by decide, (fun h => by cases h), fun _ => ⟨(lw_g (lw_at lw_m10 161 rfl) rfl), qs73⟩⟩
theorem okm_230 : okM (230, ⟨RX19, "fails", "(I)Z"⟩, prog_43_method_13_code, some .boolean, 2, 1, false) := ⟨(lw_g (lw_at lw_m10 87 rfl) rfl), (lw_g (lw_at lw_m10 90 rfl) rfl), rfl, by decide +kernel, by decide, (fun h => by cases h), fun _ => ⟨(lw_g (lw_at lw_m10 89 rfl) rfl), qs62⟩⟩
theorem okm_233 : okM (233, ⟨RX19, "puts", "(I)V"⟩, prog_43_method_15_code, none, 2, 1, false) := ⟨(lw_g (lw_at lw_m10 210 rfl) rfl), (lw_g (lw_at lw_m10 213 rfl) rfl), rfl, by decide +kernel, by decide, (fun h => by cases h), fun _ => ⟨(lw_g (lw_at lw_m10 212 rfl) rfl), qs84⟩⟩
theorem okm_236 : okM (236, ⟨RX19, "nextToken", "()V"⟩, prog_43_method_10_code, none, 2, 0, false) := ⟨(lw_g (lw_at lw_m10 68 rfl) rfl), (lw_g (lw_at lw_m10 71 rfl) rfl), rfl, by decide +kernel, by decide, (fun h => by cases h), fun _ => ⟨(lw_g (lw_at lw_m10 70 rfl) rfl), qs58⟩⟩
theorem okm_243 : okM (243, ⟨RX19, "sums", "(I)V"⟩, prog_43_method_19_code, none, 2, 1, false) := ⟨(lw_g (lw_at lw_m11 69 rfl) rfl), (lw_g (lw_at lw_m11 72 rfl) rfl), rfl, by decide +kernel, by decide, (fun h => by cases h), fun _ => ⟨(lw_g (lw_at lw_m11 71 rfl) rfl), qs100⟩⟩
theorem okm_246 : okM (246, ⟨RX19, "opens", "(I)V"⟩, prog_43_method_18_code, none, 2, 1, false) := ⟨(lw_g (lw_at lw_m11 65 rfl) rfl), (lw_g (lw_at lw_m11 68 rfl) rfl), rfl, by decide +kernel, by decide, (fun h => by cases h), fun _ => ⟨(lw_g (lw_at lw_m11 67 rfl) rfl), qs99⟩⟩
theorem okm_249 : okM (249, ⟨RX19, "tests", "(I)V"⟩, prog_43_method_20_code, none, 3, 1, false) := ⟨(lw_g (lw_at lw_m11 73 rfl) rfl), (lw_g (lw_at lw_m11 76 rfl) rfl), rfl, by decide +kernel, by decide, (fun h => by cases h), fun _ => ⟨(lw_g (lw_at lw_m11 75 rfl) rfl), qs101⟩⟩
theorem okm_296 : okM (296, ⟨RX19, "within", "(III)Z"⟩, prog_43_method_3_code, some .boolean, 3, 3, true) := ⟨(lw_g (lw_at lw_m10 152 rfl) rfl), (lw_g (lw_at lw_m10 154 rfl) rfl), rfl, by decide +kernel, by decide, fun _ => (lw_g (lw_at lw_m10 153 rfl) rfl), (fun h => by cases h)⟩
theorem okm_303 : okM (303, ⟨RX19, "isKept", "()Z"⟩, prog_43_method_22_code, some .boolean, 1, 0, false) := ⟨(lw_g (lw_at lw_m10 95 rfl) rfl), (lw_g (lw_at lw_m10 98 rfl) rfl), rfl, by decide +kernel, by decide, (fun h => by cases h), fun _ => ⟨(lw_g (lw_at lw_m10 97 rfl) rfl), qs64⟩⟩
theorem okm_307 : okM (307, ⟨RX19, "handNamed", "(I)I"⟩, prog_43_method_23_code, some .int, 3, 1, false) := ⟨(lw_g (lw_at lw_m10 124 rfl) rfl), (lw_g (lw_at lw_m10 127 rfl) rfl), rfl, by decide +kernel, by decide, (fun h => by cases h), fun _ => ⟨(lw_g (lw_at lw_m10 126 rfl) rfl), qs65⟩⟩
theorem okm_310 : okM (310, ⟨RX19, "doorNamed", "(I)I"⟩, prog_43_method_24_code, some .int, 3, 1, false) := ⟨(lw_g (lw_at lw_m10 128 rfl) rfl), (lw_g (lw_at lw_m10 131 rfl) rfl), rfl, by decide +kernel, by decide, (fun h => by cases h), fun _ => ⟨(lw_g (lw_at lw_m10 130 rfl) rfl), qs66⟩⟩
theorem okm_313 : okM (313, ⟨RX19, "needsWord", "(J)Z"⟩, prog_43_method_26_code, some .boolean, 3, 1, false) := ⟨(lw_g (lw_at lw_m10 144 rfl) rfl), (lw_g (lw_at lw_m10 147 rfl) rfl), rfl, by decide +kernel, by decide, (fun h => by cases h), fun _ => ⟨(lw_g (lw_at lw_m10 146 rfl) rfl), qs70⟩⟩
theorem okm_316 : okM (316, ⟨RX19, "needsNumber", "(II)Z"⟩, prog_43_method_25_code, some .boolean, 3, 2, false) := ⟨(lw_g (lw_at lw_m10 148 rfl) rfl), (lw_g (lw_at lw_m10 151 rfl) rfl), rfl, by decide +kernel, by decide, (fun h => by cases h), fun _ => ⟨(lw_g (lw_at lw_m10 150 rfl) rfl), qs71⟩⟩
theorem okm_320 : okM (320, ⟨RX19, "isNew", "()Z"⟩, prog_43_method_30_code, some .boolean, 1, 0, false) := ⟨(lw_g (lw_at lw_m10 91 rfl) rfl), (lw_g (lw_at lw_m10 94 rfl) rfl), rfl, by decide +kernel, by decide, (fun h => by cases h), fun _ => ⟨(lw_g (lw_at lw_m10 93 rfl) rfl), qs63⟩⟩
theorem okm_323 : okM (323, ⟨RX19, "handAt", "()I"⟩, prog_43_method_31_code, some .int, 1, 0, false) := ⟨(lw_g (lw_at lw_m10 132 rfl) rfl), (lw_g (lw_at lw_m10 135 rfl) rfl), rfl, by decide +kernel, by decide, (fun h => by cases h), fun _ => ⟨(lw_g (lw_at lw_m10 134 rfl) rfl), qs67⟩⟩
theorem okm_326 : okM (326, ⟨RX19, "needsHand", "(I)Z"⟩, prog_43_method_27_code, some .boolean, 2, 1, false) := ⟨(lw_g (lw_at lw_m10 136 rfl) rfl), (lw_g (lw_at lw_m10 139 rfl) rfl), rfl, by decide +kernel, by decide, (fun h => by cases h), fun _ => ⟨(lw_g (lw_at lw_m10 138 rfl) rfl), qs68⟩⟩
theorem okm_329 : okM (329, ⟨RX19, "readsMarks", "(I)Z"⟩, prog_43_method_32_code, some .boolean, 3, 1, false) := ⟨(lw_g (lw_at lw_m10 140 rfl) rfl), (lw_g (lw_at lw_m10 143 rfl) rfl), rfl, by decide +kernel, by decide, (fun h => by cases h), fun _ => ⟨(lw_g (lw_at lw_m10 142 rfl) rfl), qs69⟩⟩
theorem okm_332 : okM (332, ⟨RX19, "ends", "()Z"⟩, prog_43_method_29_code, some .boolean, 1, 0, false) := ⟨(lw_g (lw_at lw_m10 155 rfl) rfl), (lw_g (lw_at lw_m10 158 rfl) rfl), rfl, by decide +kernel, by decide, (fun h => by cases h), fun _ => ⟨(lw_g (lw_at lw_m10 157 rfl) rfl), qs72⟩⟩
theorem okm_335 : okM (335, ⟨RX19, "doorAt", "()I"⟩, prog_43_method_34_code, some .int, 1, 0, false) := ⟨(lw_g (lw_at lw_m10 167 rfl) rfl), (lw_g (lw_at lw_m10 170 rfl) rfl), rfl, by decide +kernel, by decide, (fun h => by cases h), fun _ => ⟨(lw_g (lw_at lw_m10 169 rfl) rfl), qs75⟩⟩
theorem okm_338 : okM (338, ⟨RX19, "needsDoor", "(I)Z"⟩, prog_43_method_28_code, some .boolean, 2, 1, false) := ⟨(lw_g (lw_at lw_m10 175 rfl) rfl), (lw_g (lw_at lw_m10 178 rfl) rfl), rfl, by decide +kernel, by decide, (fun h => by cases h), fun _ => ⟨(lw_g (lw_at lw_m10 177 rfl) rfl), qs77⟩⟩
theorem okm_344 : okM (344, ⟨RX19, "isTwice", "(I)Z"⟩, prog_43_method_37_code, some .boolean, 2, 1, false) := ⟨(lw_g (lw_at lw_m10 183 rfl) rfl), (lw_g (lw_at lw_m10 186 rfl) rfl), rfl, by decide +kernel, by decide, (fun h => by cases h), fun _ => ⟨(lw_g (lw_at lw_m10 185 rfl) rfl), qs79⟩⟩
theorem okm_347 : okM (347, ⟨RX19, "reads", "()Z"⟩, prog_43_method_17_code, some .boolean, 6, 0, false) := ⟨(lw_g (lw_at lw_m10 195 rfl) rfl), (lw_g (lw_at lw_m10 198 rfl) rfl), rfl, by decide +kernel, by decide, (fun h => by cases h), fun _ => ⟨(lw_g (lw_at lw_m10 197 rfl) rfl), qs82⟩⟩
theorem okm_350 : okM (350, ⟨RX19, "starts", "()V"⟩, prog_43_method_41_code, none, 1, 0, false) := ⟨(lw_g (lw_at lw_m10 64 rfl) rfl), (lw_g (lw_at lw_m10 67 rfl) rfl), rfl, by decide +kernel, by decide, (fun h => by cases h), fun _ => ⟨(lw_g (lw_at lw_m10 66 rfl) rfl), qs57⟩⟩
theorem okm_353 : okM (353, ⟨RX19, "readsHand", "()Z"⟩, prog_43_method_33_code, some .boolean, 3, 0, false) := ⟨(lw_g (lw_at lw_m10 83 rfl) rfl), (lw_g (lw_at lw_m10 86 rfl) rfl), rfl, by decide +kernel, by decide, (fun h => by cases h), fun _ => ⟨(lw_g (lw_at lw_m10 85 rfl) rfl), qs61⟩⟩
theorem okm_356 : okM (356, ⟨RX19, "readsDoor", "()Z"⟩, prog_43_method_35_code, some .boolean, 2, 0, false) := ⟨(lw_g (lw_at lw_m10 163 rfl) rfl), (lw_g (lw_at lw_m10 166 rfl) rfl), rfl, by decide +kernel, by decide, (fun h => by cases h), fun _ => ⟨(lw_g (lw_at lw_m10 165 rfl) rfl), qs74⟩⟩
theorem okm_359 : okM (359, ⟨RX19, "readsStreet", "()Z"⟩, prog_43_method_36_code, some .boolean, 5, 0, false) := ⟨(lw_g (lw_at lw_m10 171 rfl) rfl), (lw_g (lw_at lw_m10 174 rfl) rfl), rfl, by decide +kernel, by decide, (fun h => by cases h), fun _ => ⟨(lw_g (lw_at lw_m10 173 rfl) rfl), qs76⟩⟩
theorem okm_362 : okM (362, ⟨RX19, "readsGossip", "()Z"⟩, prog_43_method_38_code, some .boolean, 1, 0, false) := ⟨(lw_g (lw_at lw_m10 179 rfl) rfl), (lw_g (lw_at lw_m10 182 rfl) rfl), rfl, by decide +kernel, by decide, (fun h => by cases h), fun _ => ⟨(lw_g (lw_at lw_m10 181 rfl) rfl), qs78⟩⟩
theorem okm_365 : okM (365, ⟨RX19, "readsGuard", "()Z"⟩, prog_43_method_39_code, some .boolean, 1, 0, false) := ⟨(lw_g (lw_at lw_m10 187 rfl) rfl), (lw_g (lw_at lw_m10 190 rfl) rfl), rfl, by decide +kernel, by decide, (fun h => by cases h), fun _ => ⟨(lw_g (lw_at lw_m10 189 rfl) rfl), qs80⟩⟩
theorem okm_368 : okM (368, ⟨RX19, "readsLaw", "(I)Z"⟩, prog_43_method_40_code, some .boolean, 2, 1, false) := ⟨(lw_g (lw_at lw_m10 191 rfl) rfl), (lw_g (lw_at lw_m10 194 rfl) rfl), rfl, by decide +kernel, by decide, (fun h => by cases h), fun _ => ⟨(lw_g (lw_at lw_m10 193 rfl) rfl), qs81⟩⟩
theorem okm_375 : okM (375, ⟨RX19, "readsTry", "()Z"⟩, prog_43_method_43_code, some .boolean, 2, 0, false) := ⟨(lw_g (lw_at lw_m10 237 rfl) rfl), (lw_g (lw_at lw_m11 0 rfl) rfl), rfl, by decide +kernel, by decide, (fun h => by cases h), fun _ => ⟨(lw_g (lw_at lw_m10 239 rfl) rfl), qs88⟩⟩
theorem okm_380 : okM (380, ⟨RX19, "readsNight", "()Z"⟩, prog_43_method_44_code, some .boolean, 1, 0, false) := ⟨(lw_g (lw_at lw_m11 3 rfl) rfl), (lw_g (lw_at lw_m11 6 rfl) rfl), rfl, by decide +kernel, by decide, (fun h => by cases h), fun _ => ⟨(lw_g (lw_at lw_m11 5 rfl) rfl), qs89⟩⟩
theorem okm_383 : okM (383, ⟨RX19, "moves", "([IIII)V"⟩, prog_43_method_46_code, none, 5, 4, true) := ⟨(lw_g (lw_at lw_m10 218 rfl) rfl), (lw_g (lw_at lw_m10 220 rfl) rfl), rfl, by decide +kernel, by decide, fun _ => (lw_g (lw_at lw_m10 219 rfl) rfl), (fun h => by cases h)⟩
theorem okm_387 : okM (387, ⟨RX19, "movesLong", "([JIII)V"⟩, prog_43_method_47_code, none, 5, 4, true) := ⟨(lw_g (lw_at lw_m10 221 rfl) rfl), (lw_g (lw_at lw_m10 223 rfl) rfl), rfl, by decide +kernel, by decide, fun _ => (lw_g (lw_at lw_m10 222 rfl) rfl), (fun h => by cases h)⟩
theorem okm_391 : okM (391, ⟨RX19, "copies", "([II[II)V"⟩, prog_43_method_50_code, none, 5, 4, true) := ⟨(lw_g (lw_at lw_m11 104 rfl) rfl), (lw_g (lw_at lw_m11 106 rfl) rfl), rfl, by decide +kernel, by decide, fun _ => (lw_g (lw_at lw_m11 105 rfl) rfl), (fun h => by cases h)⟩
theorem okm_395 : okM (395, ⟨RX19, "readsAll", "()Z"⟩, prog_43_method_42_code, some .boolean, 2, 0, false) := ⟨(lw_g (lw_at lw_m10 60 rfl) rfl), (lw_g (lw_at lw_m10 63 rfl) rfl), rfl, by decide +kernel, by decide, (fun h => by cases h), fun _ => ⟨(lw_g (lw_at lw_m10 62 rfl) rfl), qs56⟩⟩
theorem okm_398 : okM (398, ⟨RX19, "lays", "(II)V"⟩, prog_43_method_49_code, none, 4, 2, false) := ⟨(lw_g (lw_at lw_m10 214 rfl) rfl), (lw_g (lw_at lw_m10 217 rfl) rfl), rfl, by decide +kernel, by decide, (fun h => by cases h), fun _ => ⟨(lw_g (lw_at lw_m10 216 rfl) rfl), qs85⟩⟩
theorem okm_402 : okM (402, ⟨RX19, "fresh", "()V"⟩, prog_43_method_53_code, none, 2, 0, false) := ⟨(lw_g (lw_at lw_m10 224 rfl) rfl), (lw_g (lw_at lw_m10 227 rfl) rfl), rfl, by decide +kernel, by decide, (fun h => by cases h), fun _ => ⟨(lw_g (lw_at lw_m10 226 rfl) rfl), qs86⟩⟩
theorem okm_408 : okM (408, ⟨RX19, "readsPast", "()Z"⟩, prog_43_method_45_code, some .boolean, 2, 0, false) := ⟨(lw_g (lw_at lw_m10 232 rfl) rfl), (lw_g (lw_at lw_m10 235 rfl) rfl), rfl, by decide +kernel, by decide, (fun h => by cases h), fun _ => ⟨(lw_g (lw_at lw_m10 234 rfl) rfl), qs87⟩⟩
theorem okm_411 : okM (411, ⟨RX19, "laysPast", "(II)V"⟩, prog_43_method_48_code, none, 3, 2, false) := ⟨(lw_g (lw_at lw_m11 7 rfl) rfl), (lw_g (lw_at lw_m11 10 rfl) rfl), rfl, by decide +kernel, by decide, (fun h => by cases h), fun _ => ⟨(lw_g (lw_at lw_m11 9 rfl) rfl), qs90⟩⟩
theorem okm_414 : okM (414, ⟨RX19, "isDoor", "(I)Z"⟩, prog_43_method_57_code, some .boolean, 2, 1, false) := ⟨(lw_g (lw_at lw_m11 27 rfl) rfl), (lw_g (lw_at lw_m11 30 rfl) rfl), rfl, by decide +kernel, by decide, (fun h => by cases h), fun _ => ⟨(lw_g (lw_at lw_m11 29 rfl) rfl), qs93⟩⟩
theorem okm_417 : okM (417, ⟨RX19, "isHand", "(I)Z"⟩, prog_43_method_56_code, some .boolean, 2, 1, false) := ⟨(lw_g (lw_at lw_m11 15 rfl) rfl), (lw_g (lw_at lw_m11 18 rfl) rfl), rfl, by decide +kernel, by decide, (fun h => by cases h), fun _ => ⟨(lw_g (lw_at lw_m11 17 rfl) rfl), qs91⟩⟩
theorem okm_420 : okM (420, ⟨RX19, "believed", "(I)I"⟩, prog_43_method_59_code, some .int, 2, 1, false) := ⟨(lw_g (lw_at lw_m11 19 rfl) rfl), (lw_g (lw_at lw_m11 22 rfl) rfl), rfl, by decide +kernel, by decide, (fun h => by cases h), fun _ => ⟨(lw_g (lw_at lw_m11 21 rfl) rfl), qs92⟩⟩
theorem okm_423 : okM (423, ⟨RX19, "isSummed", "(I)Z"⟩, prog_43_method_62_code, some .boolean, 1, 1, true) := ⟨(lw_g (lw_at lw_m11 35 rfl) rfl), (lw_g (lw_at lw_m11 37 rfl) rfl), rfl, by decide +kernel, by decide, fun _ => (lw_g (lw_at lw_m11 36 rfl) rfl), (fun h => by cases h)⟩
theorem okm_426 : okM (426, ⟨RX19, "between", "(III)I"⟩, prog_43_method_4_code, some .int, 3, 3, true) := ⟨(lw_g (lw_at lw_m11 58 rfl) rfl), (lw_g (lw_at lw_m11 60 rfl) rfl), rfl, by decide +kernel, by decide, fun _ => (lw_g (lw_at lw_m11 59 rfl) rfl), (fun h => by cases h)⟩
theorem okm_430 : okM (430, ⟨RX19, "worked", "(I)I"⟩, prog_43_method_21_code, some .int, 6, 1, false) := ⟨(lw_g (lw_at lw_m11 61 rfl) rfl), (lw_g (lw_at lw_m11 64 rfl) rfl), rfl, by decide +kernel, by decide, (fun h => by cases h), fun _ => ⟨(lw_g (lw_at lw_m11 63 rfl) rfl), qs98⟩⟩
theorem okm_433 : okM (433, ⟨RX19, "feltOf", "(II)I"⟩, prog_43_method_65_code, some .int, 4, 2, false) := ⟨(lw_g (lw_at lw_m11 54 rfl) rfl), (lw_g (lw_at lw_m11 57 rfl) rfl), rfl, by decide +kernel, by decide, (fun h => by cases h), fun _ => ⟨(lw_g (lw_at lw_m11 56 rfl) rfl), qs97⟩⟩
theorem okm_437 : okM (437, ⟨RX19, "away", "(II)I"⟩, prog_43_method_5_code, some .int, 2, 2, true) := ⟨(lw_g (lw_at lw_m11 81 rfl) rfl), (lw_g (lw_at lw_m11 83 rfl) rfl), rfl, by decide +kernel, by decide, fun _ => (lw_g (lw_at lw_m11 82 rfl) rfl), (fun h => by cases h)⟩
theorem okm_440 : okM (440, ⟨RX19, "farOf", "(I)I"⟩, prog_43_method_67_code, some .int, 7, 1, false) := ⟨(lw_g (lw_at lw_m11 77 rfl) rfl), (lw_g (lw_at lw_m11 80 rfl) rfl), rfl, by decide +kernel, by decide, (fun h => by cases h), fun _ => ⟨(lw_g (lw_at lw_m11 79 rfl) rfl), qs102⟩⟩
theorem okm_448 : okM (448, ⟨RX19, "feels", "(I)V"⟩, prog_43_method_66_code, none, 3, 1, false) := ⟨(lw_g (lw_at lw_m11 50 rfl) rfl), (lw_g (lw_at lw_m11 53 rfl) rfl), rfl, by decide +kernel, by decide, (fun h => by cases h), fun _ => ⟨(lw_g (lw_at lw_m11 52 rfl) rfl), qs96⟩⟩
theorem okm_451 : okM (451, ⟨RX19, "opensTo", "(II)Z"⟩, prog_43_method_68_code, some .boolean, 4, 2, false) := ⟨(lw_g (lw_at lw_m11 92 rfl) rfl), (lw_g (lw_at lw_m11 95 rfl) rfl), rfl, by decide +kernel, by decide, (fun h => by cases h), fun _ => ⟨(lw_g (lw_at lw_m11 94 rfl) rfl), qs104⟩⟩
theorem okm_454 : okM (454, ⟨RX19, "learns", "(II)V"⟩, prog_43_method_69_code, none, 5, 2, false) := ⟨(lw_g (lw_at lw_m11 111 rfl) rfl), (lw_g (lw_at lw_m11 114 rfl) rfl), rfl, by decide +kernel, by decide, (fun h => by cases h), fun _ => ⟨(lw_g (lw_at lw_m11 113 rfl) rfl), qs107⟩⟩
theorem okm_457 : okM (457, ⟨RX19, "noSlips", "()V"⟩, prog_43_method_64_code, none, 2, 0, false) := ⟨(lw_g (lw_at lw_m11 46 rfl) rfl), (lw_g (lw_at lw_m11 49 rfl) rfl), rfl, by decide +kernel, by decide, (fun h => by cases h), fun _ => ⟨(lw_g (lw_at lw_m11 48 rfl) rfl), qs95⟩⟩
theorem okm_460 : okM (460, ⟨RX19, "knocks", "(II)Z"⟩, prog_43_method_70_code, some .boolean, 7, 2, false) := ⟨(lw_g (lw_at lw_m11 107 rfl) rfl), (lw_g (lw_at lw_m11 110 rfl) rfl), rfl, by decide +kernel, by decide, (fun h => by cases h), fun _ => ⟨(lw_g (lw_at lw_m11 109 rfl) rfl), qs106⟩⟩
theorem okm_463 : okM (463, ⟨RX19, "areBoth", "(II)Z"⟩, prog_43_method_58_code, some .boolean, 3, 2, false) := ⟨(lw_g (lw_at lw_m11 42 rfl) rfl), (lw_g (lw_at lw_m11 45 rfl) rfl), rfl, by decide +kernel, by decide, (fun h => by cases h), fun _ => ⟨(lw_g (lw_at lw_m11 44 rfl) rfl), qs94⟩⟩
theorem okm_466 : okM (466, ⟨RX19, "areSlips", "(II)Z"⟩, prog_43_method_74_code, some .boolean, 6, 2, false) := ⟨(lw_g (lw_at lw_m11 88 rfl) rfl), (lw_g (lw_at lw_m11 91 rfl) rfl), rfl, by decide +kernel, by decide, (fun h => by cases h), fun _ => ⟨(lw_g (lw_at lw_m11 90 rfl) rfl), qs103⟩⟩
theorem okm_469 : okM (469, ⟨RX19, "keeps", "()V"⟩, prog_43_method_76_code, none, 2, 0, false) := ⟨(lw_g (lw_at lw_m11 100 rfl) rfl), (lw_g (lw_at lw_m11 103 rfl) rfl), rfl, by decide +kernel, by decide, (fun h => by cases h), fun _ => ⟨(lw_g (lw_at lw_m11 102 rfl) rfl), qs105⟩⟩
theorem okm_472 : okM (472, ⟨RX19, "halves", "(I)V"⟩, prog_43_method_80_code, none, 3, 1, false) := ⟨(lw_g (lw_at lw_m11 136 rfl) rfl), (lw_g (lw_at lw_m11 139 rfl) rfl), rfl, by decide +kernel, by decide, (fun h => by cases h), fun _ => ⟨(lw_g (lw_at lw_m11 138 rfl) rfl), qs110⟩⟩
theorem okm_475 : okM (475, ⟨RX19, "says", "(I)V"⟩, prog_43_method_81_code, none, 7, 1, false) := ⟨(lw_g (lw_at lw_m11 140 rfl) rfl), (lw_g (lw_at lw_m11 143 rfl) rfl), rfl, by decide +kernel, by decide, (fun h => by cases h), fun _ => ⟨(lw_g (lw_at lw_m11 142 rfl) rfl), qs111⟩⟩
theorem okm_478 : okM (478, ⟨RX19, "hears", "(II)V"⟩, prog_43_method_82_code, none, 4, 2, false) := ⟨(lw_g (lw_at lw_m11 144 rfl) rfl), (lw_g (lw_at lw_m11 147 rfl) rfl), rfl, by decide +kernel, by decide, (fun h => by cases h), fun _ => ⟨(lw_g (lw_at lw_m11 146 rfl) rfl), qs112⟩⟩
theorem okm_481 : okM (481, ⟨RX19, "midnight", "()V"⟩, prog_43_method_83_code, none, 2, 0, false) := ⟨(lw_g (lw_at lw_m11 132 rfl) rfl), (lw_g (lw_at lw_m11 135 rfl) rfl), rfl, by decide +kernel, by decide, (fun h => by cases h), fun _ => ⟨(lw_g (lw_at lw_m11 134 rfl) rfl), qs109⟩⟩
theorem okm_484 : okM (484, ⟨RX19, "passes", "()V"⟩, prog_43_method_84_code, none, 1, 0, false) := ⟨(lw_g (lw_at lw_m11 128 rfl) rfl), (lw_g (lw_at lw_m11 131 rfl) rfl), rfl, by decide +kernel, by decide, (fun h => by cases h), fun _ => ⟨(lw_g (lw_at lw_m11 130 rfl) rfl), qs108⟩⟩
theorem okm_487 : okM (487, ⟨RX19, "saves", "(I)V"⟩, prog_43_method_51_code, none, 2, 1, false) := ⟨(lw_g (lw_at lw_m11 156 rfl) rfl), (lw_g (lw_at lw_m11 159 rfl) rfl), rfl, by decide +kernel, by decide, (fun h => by cases h), fun _ => ⟨(lw_g (lw_at lw_m11 158 rfl) rfl), qs114⟩⟩
theorem okm_490 : okM (490, ⟨RX19, "tries", "(II)Z"⟩, prog_43_method_71_code, some .boolean, 3, 2, false) := ⟨(lw_g (lw_at lw_m11 160 rfl) rfl), (lw_g (lw_at lw_m11 163 rfl) rfl), rfl, by decide +kernel, by decide, (fun h => by cases h), fun _ => ⟨(lw_g (lw_at lw_m11 162 rfl) rfl), qs115⟩⟩
theorem okm_493 : okM (493, ⟨RX19, "loads", "(I)V"⟩, prog_43_method_52_code, none, 2, 1, false) := ⟨(lw_g (lw_at lw_m11 164 rfl) rfl), (lw_g (lw_at lw_m11 167 rfl) rfl), rfl, by decide +kernel, by decide, (fun h => by cases h), fun _ => ⟨(lw_g (lw_at lw_m11 166 rfl) rfl), qs116⟩⟩
theorem okm_496 : okM (496, ⟨RX19, "patienceOf", "(III)I"⟩, prog_43_method_87_code, some .int, 6, 3, false) := ⟨(lw_g (lw_at lw_m11 152 rfl) rfl), (lw_g (lw_at lw_m11 155 rfl) rfl), rfl, by decide +kernel, by decide, (fun h => by cases h), fun _ => ⟨(lw_g (lw_at lw_m11 154 rfl) rfl), qs113⟩⟩
theorem okm_499 : okM (499, ⟨RX19, "looksOpen", "(II)Z"⟩, prog_43_method_72_code, some .boolean, 3, 2, false) := ⟨(lw_g (lw_at lw_m11 180 rfl) rfl), (lw_g (lw_at lw_m11 183 rfl) rfl), rfl, by decide +kernel, by decide, (fun h => by cases h), fun _ => ⟨(lw_g (lw_at lw_m11 182 rfl) rfl), qs118⟩⟩
theorem okm_502 : okM (502, ⟨RX19, "slides", "(I)V"⟩, prog_43_method_90_code, none, 2, 1, false) := ⟨(lw_g (lw_at lw_m11 184 rfl) rfl), (lw_g (lw_at lw_m11 187 rfl) rfl), rfl, by decide +kernel, by decide, (fun h => by cases h), fun _ => ⟨(lw_g (lw_at lw_m11 186 rfl) rfl), qs119⟩⟩
theorem okm_505 : okM (505, ⟨RX19, "gives", "(IIII)Z"⟩, prog_43_method_91_code, some .boolean, 7, 4, false) := ⟨(lw_g (lw_at lw_m11 176 rfl) rfl), (lw_g (lw_at lw_m11 179 rfl) rfl), rfl, by decide +kernel, by decide, (fun h => by cases h), fun _ => ⟨(lw_g (lw_at lw_m11 178 rfl) rfl), qs117⟩⟩
theorem okm_512 : okM (512, ⟨RX19, "counts", "(II)V"⟩, prog_43_method_94_code, none, 8, 2, false) := ⟨(lw_g (lw_at lw_m11 196 rfl) rfl), (lw_g (lw_at lw_m11 199 rfl) rfl), rfl, by decide +kernel, by decide, (fun h => by cases h), fun _ => ⟨(lw_g (lw_at lw_m11 198 rfl) rfl), qs120⟩⟩
theorem okm_515 : okM (515, ⟨RX19, "gcd", "(II)I"⟩, prog_43_method_7_code, some .int, 5, 2, true) := ⟨(lw_g (lw_at lw_m11 200 rfl) rfl), (lw_g (lw_at lw_m11 202 rfl) rfl), rfl, by decide +kernel, by decide, fun _ => (lw_g (lw_at lw_m11 201 rfl) rfl), (fun h => by cases h)⟩
theorem okm_518 : okM (518, ⟨RX19, "toMidnight", "()V"⟩, prog_43_method_85_code, none, 1, 0, false) := ⟨(lw_g (lw_at lw_m11 211 rfl) rfl), (lw_g (lw_at lw_m11 214 rfl) rfl), rfl, by decide +kernel, by decide, (fun h => by cases h), fun _ => ⟨(lw_g (lw_at lw_m11 213 rfl) rfl), qs121⟩⟩
theorem okm_524 : okM (524, ⟨RX19, "relives", "(I)V"⟩, prog_43_method_98_code, none, 6, 1, false) := ⟨(lw_g (lw_at lw_m11 219 rfl) rfl), (lw_g (lw_at lw_m11 222 rfl) rfl), rfl, by decide +kernel, by decide, (fun h => by cases h), fun _ => ⟨(lw_g (lw_at lw_m11 221 rfl) rfl), qs122⟩⟩
theorem okm_527 : okM (527, ⟨RX19, "isFit", "(III)Z"⟩, prog_43_method_100_code, some .boolean, 6, 3, false) := ⟨(lw_g (lw_at lw_m11 227 rfl) rfl), (lw_g (lw_at lw_m11 230 rfl) rfl), rfl, by decide +kernel, by decide, (fun h => by cases h), fun _ => ⟨(lw_g (lw_at lw_m11 229 rfl) rfl), qs123⟩⟩
theorem okm_530 : okM (530, ⟨RX19, "bits", "(I)I"⟩, prog_43_method_6_code, some .int, 3, 1, true) := ⟨(lw_g (lw_at lw_m12 3 rfl) rfl), (lw_g (lw_at lw_m12 5 rfl) rfl), rfl, by decide +kernel, by decide, fun _ => (lw_g (lw_at lw_m12 4 rfl) rfl), (fun h => by cases h)⟩
theorem okm_533 : okM (533, ⟨RX19, "trains", "(IIIII)Z"⟩, prog_43_method_105_code, some .boolean, 8, 5, false) := ⟨(lw_g (lw_at lw_m12 10 rfl) rfl), (lw_g (lw_at lw_m12 13 rfl) rfl), rfl, by decide +kernel, by decide, (fun h => by cases h), fun _ => ⟨(lw_g (lw_at lw_m12 12 rfl) rfl), qs124⟩⟩
theorem okm_537 : okM (537, ⟨RX19, "plays", "(I)V"⟩, prog_43_method_107_code, none, 7, 1, false) := ⟨(lw_g (lw_at lw_m12 18 rfl) rfl), (lw_g (lw_at lw_m12 21 rfl) rfl), rfl, by decide +kernel, by decide, (fun h => by cases h), fun _ => ⟨(lw_g (lw_at lw_m12 20 rfl) rfl), qs125⟩⟩
theorem okm_540 : okM (540, ⟨RX19, "isRest", "(II)Z"⟩, prog_43_method_108_code, some .boolean, 4, 2, false) := ⟨(lw_g (lw_at lw_m12 22 rfl) rfl), (lw_g (lw_at lw_m12 25 rfl) rfl), rfl, by decide +kernel, by decide, (fun h => by cases h), fun _ => ⟨(lw_g (lw_at lw_m12 24 rfl) rfl), qs126⟩⟩
theorem okm_554 : okM (554, ⟨RX19, "draws", "(I)I"⟩, prog_43_method_110_code, some .int, 2, 1, false) := ⟨(lw_g (lw_at lw_m12 30 rfl) rfl), (lw_g (lw_at lw_m12 33 rfl) rfl), rfl, by decide +kernel, by decide, (fun h => by cases h), fun _ => ⟨(lw_g (lw_at lw_m12 32 rfl) rfl), qs127⟩⟩
def mTab : List (Nat × MdT) := [(150, ⟨RX19, "plain", "(I)V"⟩, prog_43_method_14_code, none, 3, 1, false), (182, ⟨RX19, "signAt", "(I)I"⟩, prog_43_method_9_code, some .int, 2, 1, false), (216, ⟨RX19, "fact", "()I"⟩, prog_43_method_16_code, some .int, 1, 0, false), (222, ⟨RX19, "isWord", "(J)Z"⟩, prog_43_method_11_code, some .boolean, 3, 1, false), (226, ⟨RX19, "isSign", "(I)Z"⟩, prog_43_method_12_code, some .boolean, 2, 1, false), (230, ⟨RX19, "fails", "(I)Z"⟩, prog_43_method_13_code, some .boolean, 2, 1, false), (233, ⟨RX19, "puts", "(I)V"⟩, prog_43_method_15_code, none, 2, 1, false), (236, ⟨RX19, "nextToken", "()V"⟩, prog_43_method_10_code, none, 2, 0, false), (243, ⟨RX19, "sums", "(I)V"⟩, prog_43_method_19_code, none, 2, 1, false), (246, ⟨RX19, "opens", "(I)V"⟩, prog_43_method_18_code, none, 2, 1, false), (249, ⟨RX19, "tests", "(I)V"⟩, prog_43_method_20_code, none, 3, 1, false), (296, ⟨RX19, "within", "(III)Z"⟩, prog_43_method_3_code, some .boolean, 3, 3, true), (303, ⟨RX19, "isKept", "()Z"⟩, prog_43_method_22_code, some .boolean, 1, 0, false), (307, ⟨RX19, "handNamed", "(I)I"⟩, prog_43_method_23_code, some .int, 3, 1, false), (310, ⟨RX19, "doorNamed", "(I)I"⟩, prog_43_method_24_code, some .int, 3, 1, false), (313, ⟨RX19, "needsWord", "(J)Z"⟩, prog_43_method_26_code, some .boolean, 3, 1, false), (316, ⟨RX19, "needsNumber", "(II)Z"⟩, prog_43_method_25_code, some .boolean, 3, 2, false), (320, ⟨RX19, "isNew", "()Z"⟩, prog_43_method_30_code, some .boolean, 1, 0, false), (323, ⟨RX19, "handAt", "()I"⟩, prog_43_method_31_code, some .int, 1, 0, false), (326, ⟨RX19, "needsHand", "(I)Z"⟩, prog_43_method_27_code, some .boolean, 2, 1, false), (329, ⟨RX19, "readsMarks", "(I)Z"⟩, prog_43_method_32_code, some .boolean, 3, 1, false), (332, ⟨RX19, "ends", "()Z"⟩, prog_43_method_29_code, some .boolean, 1, 0, false), (335, ⟨RX19, "doorAt", "()I"⟩, prog_43_method_34_code, some .int, 1, 0, false), (338, ⟨RX19, "needsDoor", "(I)Z"⟩, prog_43_method_28_code, some .boolean, 2, 1, false), (344, ⟨RX19, "isTwice", "(I)Z"⟩, prog_43_method_37_code, some .boolean, 2, 1, false), (347, ⟨RX19, "reads", "()Z"⟩, prog_43_method_17_code, some .boolean, 6, 0, false), (350, ⟨RX19, "starts", "()V"⟩, prog_43_method_41_code, none, 1, 0, false), (353, ⟨RX19, "readsHand", "()Z"⟩, prog_43_method_33_code, some .boolean, 3, 0, false), (356, ⟨RX19, "readsDoor", "()Z"⟩, prog_43_method_35_code, some .boolean, 2, 0, false), (359, ⟨RX19, "readsStreet", "()Z"⟩, prog_43_method_36_code, some .boolean, 5, 0, false), (362, ⟨RX19, "readsGossip", "()Z"⟩, prog_43_method_38_code, some .boolean, 1, 0, false), (365, ⟨RX19, "readsGuard", "()Z"⟩, prog_43_method_39_code, some .boolean, 1, 0, false), (368, ⟨RX19, "readsLaw", "(I)Z"⟩, prog_43_method_40_code, some .boolean, 2, 1, false), (375, ⟨RX19, "readsTry", "()Z"⟩, prog_43_method_43_code, some .boolean, 2, 0, false), (380, ⟨RX19, "readsNight", "()Z"⟩, prog_43_method_44_code, some .boolean, 1, 0, false), (383, ⟨RX19, "moves", "([IIII)V"⟩, prog_43_method_46_code, none, 5, 4, true), (387, ⟨RX19, "movesLong", "([JIII)V"⟩, prog_43_method_47_code, none, 5, 4, true), (391, ⟨RX19, "copies", "([II[II)V"⟩, prog_43_method_50_code, none, 5, 4, true), (395, ⟨RX19, "readsAll", "()Z"⟩, prog_43_method_42_code, some .boolean, 2, 0, false), (398, ⟨RX19, "lays", "(II)V"⟩, prog_43_method_49_code, none, 4, 2, false), (402, ⟨RX19, "fresh", "()V"⟩, prog_43_method_53_code, none, 2, 0, false), (408, ⟨RX19, "readsPast", "()Z"⟩, prog_43_method_45_code, some .boolean, 2, 0, false), (411, ⟨RX19, "laysPast", "(II)V"⟩, prog_43_method_48_code, none, 3, 2, false), (414, ⟨RX19, "isDoor", "(I)Z"⟩, prog_43_method_57_code, some .boolean, 2, 1, false), (417, ⟨RX19, "isHand", "(I)Z"⟩, prog_43_method_56_code, some .boolean, 2, 1, false), (420, ⟨RX19, "believed", "(I)I"⟩, prog_43_method_59_code, some .int, 2, 1, false), (423, ⟨RX19, "isSummed", "(I)Z"⟩, prog_43_method_62_code, some .boolean, 1, 1, true), (426, ⟨RX19, "between", "(III)I"⟩, prog_43_method_4_code, some .int, 3, 3, true), (430, ⟨RX19, "worked", "(I)I"⟩, prog_43_method_21_code, some .int, 6, 1, false), (433, ⟨RX19, "feltOf", "(II)I"⟩, prog_43_method_65_code, some .int, 4, 2, false), (437, ⟨RX19, "away", "(II)I"⟩, prog_43_method_5_code, some .int, 2, 2, true), (440, ⟨RX19, "farOf", "(I)I"⟩, prog_43_method_67_code, some .int, 7, 1, false), (448, ⟨RX19, "feels", "(I)V"⟩, prog_43_method_66_code, none, 3, 1, false), (451, ⟨RX19, "opensTo", "(II)Z"⟩, prog_43_method_68_code, some .boolean, 4, 2, false), (454, ⟨RX19, "learns", "(II)V"⟩, prog_43_method_69_code, none, 5, 2, false), (457, ⟨RX19, "noSlips", "()V"⟩, prog_43_method_64_code, none, 2, 0, false), (460, ⟨RX19, "knocks", "(II)Z"⟩, prog_43_method_70_code, some .boolean, 7, 2, false), (463, ⟨RX19, "areBoth", "(II)Z"⟩, prog_43_method_58_code, some .boolean, 3, 2, false), (466, ⟨RX19, "areSlips", "(II)Z"⟩, prog_43_method_74_code, some .boolean, 6, 2, false), (469, ⟨RX19, "keeps", "()V"⟩, prog_43_method_76_code, none, 2, 0, false), (472, ⟨RX19, "halves", "(I)V"⟩, prog_43_method_80_code, none, 3, 1, false), (475, ⟨RX19, "says", "(I)V"⟩, prog_43_method_81_code, none, 7, 1, false), (478, ⟨RX19, "hears", "(II)V"⟩, prog_43_method_82_code, none, 4, 2, false), (481, ⟨RX19, "midnight", "()V"⟩, prog_43_method_83_code, none, 2, 0, false), (484, ⟨RX19, "passes", "()V"⟩, prog_43_method_84_code, none, 1, 0, false), (487, ⟨RX19, "saves", "(I)V"⟩, prog_43_method_51_code, none, 2, 1, false), (490, ⟨RX19, "tries", "(II)Z"⟩, prog_43_method_71_code, some .boolean, 3, 2, false), (493, ⟨RX19, "loads", "(I)V"⟩, prog_43_method_52_code, none, 2, 1, false), (496, ⟨RX19, "patienceOf", "(III)I"⟩, prog_43_method_87_code, some .int, 6, 3, false), (499, ⟨RX19, "looksOpen", "(II)Z"⟩, prog_43_method_72_code, some .boolean, 3, 2, false), (502, ⟨RX19, "slides", "(I)V"⟩, prog_43_method_90_code, none, 2, 1, false), (505, ⟨RX19, "gives", "(IIII)Z"⟩, prog_43_method_91_code, some .boolean, 7, 4, false), (512, ⟨RX19, "counts", "(II)V"⟩, prog_43_method_94_code, none, 8, 2, false), (515, ⟨RX19, "gcd", "(II)I"⟩, prog_43_method_7_code, some .int, 5, 2, true), (518, ⟨RX19, "toMidnight", "()V"⟩, prog_43_method_85_code, none, 1, 0, false), (524, ⟨RX19, "relives", "(I)V"⟩, prog_43_method_98_code, none, 6, 1, false), (527, ⟨RX19, "isFit", "(III)Z"⟩, prog_43_method_100_code, some .boolean, 6, 3, false), (530, ⟨RX19, "bits", "(I)I"⟩, prog_43_method_6_code, some .int, 3, 1, true), (533, ⟨RX19, "trains", "(IIIII)Z"⟩, prog_43_method_105_code, some .boolean, 8, 5, false), (537, ⟨RX19, "plays", "(I)V"⟩, prog_43_method_107_code, none, 7, 1, false), (540, ⟨RX19, "isRest", "(II)Z"⟩, prog_43_method_108_code, some .boolean, 4, 2, false), (554, ⟨RX19, "draws", "(I)I"⟩, prog_43_method_110_code, some .int, 2, 1, false)]
def mcp (idx : Nat) : Option MdT := mTab.lookup idx
theorem mTab_ok : ∀ x ∈ mTab, okM x := List.forall_mem_cons.mpr ⟨okm_150, List.forall_mem_cons.mpr ⟨okm_182, List.forall_mem_cons.mpr ⟨okm_216, List.forall_mem_cons.mpr ⟨okm_222, List.forall_mem_cons.mpr ⟨okm_226, List.forall_mem_cons.mpr ⟨okm_230, List.forall_mem_cons.mpr ⟨okm_233, List.forall_mem_cons.mpr ⟨okm_236, List.forall_mem_cons.mpr ⟨okm_243, List.forall_mem_cons.mpr ⟨okm_246, List.forall_mem_cons.mpr ⟨okm_249, List.forall_mem_cons.mpr ⟨okm_296, List.forall_mem_cons.mpr ⟨okm_303, List.forall_mem_cons.mpr ⟨okm_307, List.forall_mem_cons.mpr ⟨okm_310, List.forall_mem_cons.mpr ⟨okm_313, List.forall_mem_cons.mpr ⟨okm_316, List.forall_mem_cons.mpr ⟨okm_320, List.forall_mem_cons.mpr ⟨okm_323, List.forall_mem_cons.mpr ⟨okm_326, List.forall_mem_cons.mpr ⟨okm_329, List.forall_mem_cons.mpr ⟨okm_332, List.forall_mem_cons.mpr ⟨okm_335, List.forall_mem_cons.mpr ⟨okm_338, List.forall_mem_cons.mpr ⟨okm_344, List.forall_mem_cons.mpr ⟨okm_347, List.forall_mem_cons.mpr ⟨okm_350, List.forall_mem_cons.mpr ⟨okm_353, List.forall_mem_cons.mpr ⟨okm_356, List.forall_mem_cons.mpr ⟨okm_359, List.forall_mem_cons.mpr ⟨okm_362, List.forall_mem_cons.mpr ⟨okm_365, List.forall_mem_cons.mpr ⟨okm_368, List.forall_mem_cons.mpr ⟨okm_375, List.forall_mem_cons.mpr ⟨okm_380, List.forall_mem_cons.mpr ⟨okm_383, List.forall_mem_cons.mpr ⟨okm_387, List.forall_mem_cons.mpr ⟨okm_391, List.forall_mem_cons.mpr ⟨okm_395, List.forall_mem_cons.mpr ⟨okm_398, List.forall_mem_cons.mpr ⟨okm_402, List.forall_mem_cons.mpr ⟨okm_408, List.forall_mem_cons.mpr ⟨okm_411, List.forall_mem_cons.mpr ⟨okm_414, List.forall_mem_cons.mpr ⟨okm_417, List.forall_mem_cons.mpr ⟨okm_420, List.forall_mem_cons.mpr ⟨okm_423, List.forall_mem_cons.mpr ⟨okm_426, List.forall_mem_cons.mpr ⟨okm_430, List.forall_mem_cons.mpr ⟨okm_433, List.forall_mem_cons.mpr ⟨okm_437, List.forall_mem_cons.mpr ⟨okm_440, List.forall_mem_cons.mpr ⟨okm_448, List.forall_mem_cons.mpr ⟨okm_451, List.forall_mem_cons.mpr ⟨okm_454, List.forall_mem_cons.mpr ⟨okm_457, List.forall_mem_cons.mpr ⟨okm_460, List.forall_mem_cons.mpr ⟨okm_463, List.forall_mem_cons.mpr ⟨okm_466, List.forall_mem_cons.mpr ⟨okm_469, List.forall_mem_cons.mpr ⟨okm_472, List.forall_mem_cons.mpr ⟨okm_475, List.forall_mem_cons.mpr ⟨okm_478, List.forall_mem_cons.mpr ⟨okm_481, List.forall_mem_cons.mpr ⟨okm_484, List.forall_mem_cons.mpr ⟨okm_487, List.forall_mem_cons.mpr ⟨okm_490, List.forall_mem_cons.mpr ⟨okm_493, List.forall_mem_cons.mpr ⟨okm_496, List.forall_mem_cons.mpr ⟨okm_499, List.forall_mem_cons.mpr ⟨okm_502, List.forall_mem_cons.mpr ⟨okm_505, List.forall_mem_cons.mpr ⟨okm_512, List.forall_mem_cons.mpr ⟨okm_515, List.forall_mem_cons.mpr ⟨okm_518, List.forall_mem_cons.mpr ⟨okm_524, List.forall_mem_cons.mpr ⟨okm_527, List.forall_mem_cons.mpr ⟨okm_530, List.forall_mem_cons.mpr ⟨okm_533, List.forall_mem_cons.mpr ⟨okm_537, List.forall_mem_cons.mpr ⟨okm_540, List.forall_mem_cons.mpr ⟨okm_554, fun _ h => absurd h List.not_mem_nil⟩⟩⟩⟩⟩⟩⟩⟩⟩⟩⟩⟩⟩⟩⟩⟩⟩⟩⟩⟩⟩⟩⟩⟩⟩⟩⟩⟩⟩⟩⟩⟩⟩⟩⟩⟩⟩⟩⟩⟩⟩⟩⟩⟩⟩⟩⟩⟩⟩⟩⟩⟩⟩⟩⟩⟩⟩⟩⟩⟩⟩⟩⟩⟩⟩⟩⟩⟩⟩⟩⟩⟩⟩⟩⟩⟩⟩⟩⟩⟩⟩⟩
theorem mcp_150 : mcp 150 = some (⟨RX19, "plain", "(I)V"⟩, prog_43_method_14_code, none, 3, 1, false) := rfl
theorem mcp_182 : mcp 182 = some (⟨RX19, "signAt", "(I)I"⟩, prog_43_method_9_code, some .int, 2, 1, false) := rfl
theorem mcp_216 : mcp 216 = some (⟨RX19, "fact", "()I"⟩, prog_43_method_16_code, some .int, 1, 0, false) := rfl
theorem mcp_222 : mcp 222 = some (⟨RX19, "isWord", "(J)Z"⟩, prog_43_method_11_code, some .boolean, 3, 1, false) := rfl
theorem mcp_226 : mcp 226 = some (⟨RX19, "isSign", "(I)Z"⟩, prog_43_method_12_code, some .boolean, 2, 1, false) := rfl
theorem mcp_230 : mcp 230 = some (⟨RX19, "fails", "(I)Z"⟩, prog_43_method_13_code, some .boolean, 2, 1, false) := rfl
theorem mcp_233 : mcp 233 = some (⟨RX19, "puts", "(I)V"⟩, prog_43_method_15_code, none, 2, 1, false) := rfl
theorem mcp_236 : mcp 236 = some (⟨RX19, "nextToken", "()V"⟩, prog_43_method_10_code, none, 2, 0, false) := rfl
theorem mcp_243 : mcp 243 = some (⟨RX19, "sums", "(I)V"⟩, prog_43_method_19_code, none, 2, 1, false) := rfl
theorem mcp_246 : mcp 246 = some (⟨RX19, "opens", "(I)V"⟩, prog_43_method_18_code, none, 2, 1, false) := rfl
theorem mcp_249 : mcp 249 = some (⟨RX19, "tests", "(I)V"⟩, prog_43_method_20_code, none, 3, 1, false) := rfl
theorem mcp_296 : mcp 296 = some (⟨RX19, "within", "(III)Z"⟩, prog_43_method_3_code, some .boolean, 3, 3, true) := rfl
theorem mcp_303 : mcp 303 = some (⟨RX19, "isKept", "()Z"⟩, prog_43_method_22_code, some .boolean, 1, 0, false) := rfl
theorem mcp_307 : mcp 307 = some (⟨RX19, "handNamed", "(I)I"⟩, prog_43_method_23_code, some .int, 3, 1, false) := rfl
theorem mcp_310 : mcp 310 = some (⟨RX19, "doorNamed", "(I)I"⟩, prog_43_method_24_code, some .int, 3, 1, false) := rfl
theorem mcp_313 : mcp 313 = some (⟨RX19, "needsWord", "(J)Z"⟩, prog_43_method_26_code, some .boolean, 3, 1, false) := rfl
theorem mcp_316 : mcp 316 = some (⟨RX19, "needsNumber", "(II)Z"⟩, prog_43_method_25_code, some .boolean, 3, 2, false) := rfl
theorem mcp_320 : mcp 320 = some (⟨RX19, "isNew", "()Z"⟩, prog_43_method_30_code, some .boolean, 1, 0, false) := rfl
theorem mcp_323 : mcp 323 = some (⟨RX19, "handAt", "()I"⟩, prog_43_method_31_code, some .int, 1, 0, false) := rfl
theorem mcp_326 : mcp 326 = some (⟨RX19, "needsHand", "(I)Z"⟩, prog_43_method_27_code, some .boolean, 2, 1, false) := rfl
theorem mcp_329 : mcp 329 = some (⟨RX19, "readsMarks", "(I)Z"⟩, prog_43_method_32_code, some .boolean, 3, 1, false) := rfl
theorem mcp_332 : mcp 332 = some (⟨RX19, "ends", "()Z"⟩, prog_43_method_29_code, some .boolean, 1, 0, false) := rfl
theorem mcp_335 : mcp 335 = some (⟨RX19, "doorAt", "()I"⟩, prog_43_method_34_code, some .int, 1, 0, false) := rfl
theorem mcp_338 : mcp 338 = some (⟨RX19, "needsDoor", "(I)Z"⟩, prog_43_method_28_code, some .boolean, 2, 1, false) := rfl
theorem mcp_344 : mcp 344 = some (⟨RX19, "isTwice", "(I)Z"⟩, prog_43_method_37_code, some .boolean, 2, 1, false) := rfl
theorem mcp_347 : mcp 347 = some (⟨RX19, "reads", "()Z"⟩, prog_43_method_17_code, some .boolean, 6, 0, false) := rfl
theorem mcp_350 : mcp 350 = some (⟨RX19, "starts", "()V"⟩, prog_43_method_41_code, none, 1, 0, false) := rfl
theorem mcp_353 : mcp 353 = some (⟨RX19, "readsHand", "()Z"⟩, prog_43_method_33_code, some .boolean, 3, 0, false) := rfl
theorem mcp_356 : mcp 356 = some (⟨RX19, "readsDoor", "()Z"⟩, prog_43_method_35_code, some .boolean, 2, 0, false) := rfl
theorem mcp_359 : mcp 359 = some (⟨RX19, "readsStreet", "()Z"⟩, prog_43_method_36_code, some .boolean, 5, 0, false) := rfl
theorem mcp_362 : mcp 362 = some (⟨RX19, "readsGossip", "()Z"⟩, prog_43_method_38_code, some .boolean, 1, 0, false) := rfl
theorem mcp_365 : mcp 365 = some (⟨RX19, "readsGuard", "()Z"⟩, prog_43_method_39_code, some .boolean, 1, 0, false) := rfl
theorem mcp_368 : mcp 368 = some (⟨RX19, "readsLaw", "(I)Z"⟩, prog_43_method_40_code, some .boolean, 2, 1, false) := rfl
theorem mcp_375 : mcp 375 = some (⟨RX19, "readsTry", "()Z"⟩, prog_43_method_43_code, some .boolean, 2, 0, false) := rfl
theorem mcp_380 : mcp 380 = some (⟨RX19, "readsNight", "()Z"⟩, prog_43_method_44_code, some .boolean, 1, 0, false) := rfl
theorem mcp_383 : mcp 383 = some (⟨RX19, "moves", "([IIII)V"⟩, prog_43_method_46_code, none, 5, 4, true) := rfl
theorem mcp_387 : mcp 387 = some (⟨RX19, "movesLong", "([JIII)V"⟩, prog_43_method_47_code, none, 5, 4, true) := rfl
theorem mcp_391 : mcp 391 = some (⟨RX19, "copies", "([II[II)V"⟩, prog_43_method_50_code, none, 5, 4, true) := rfl
theorem mcp_395 : mcp 395 = some (⟨RX19, "readsAll", "()Z"⟩, prog_43_method_42_code, some .boolean, 2, 0, false) := rfl
theorem mcp_398 : mcp 398 = some (⟨RX19, "lays", "(II)V"⟩, prog_43_method_49_code, none, 4, 2, false) := rfl
theorem mcp_402 : mcp 402 = some (⟨RX19, "fresh", "()V"⟩, prog_43_method_53_code, none, 2, 0, false) := rfl
theorem mcp_408 : mcp 408 = some (⟨RX19, "readsPast", "()Z"⟩, prog_43_method_45_code, some .boolean, 2, 0, false) := rfl
theorem mcp_411 : mcp 411 = some (⟨RX19, "laysPast", "(II)V"⟩, prog_43_method_48_code, none, 3, 2, false) := rfl
theorem mcp_414 : mcp 414 = some (⟨RX19, "isDoor", "(I)Z"⟩, prog_43_method_57_code, some .boolean, 2, 1, false) := rfl
theorem mcp_417 : mcp 417 = some (⟨RX19, "isHand", "(I)Z"⟩, prog_43_method_56_code, some .boolean, 2, 1, false) := rfl
theorem mcp_420 : mcp 420 = some (⟨RX19, "believed", "(I)I"⟩, prog_43_method_59_code, some .int, 2, 1, false) := rfl
theorem mcp_423 : mcp 423 = some (⟨RX19, "isSummed", "(I)Z"⟩, prog_43_method_62_code, some .boolean, 1, 1, true) := rfl
theorem mcp_426 : mcp 426 = some (⟨RX19, "between", "(III)I"⟩, prog_43_method_4_code, some .int, 3, 3, true) := rfl
theorem mcp_430 : mcp 430 = some (⟨RX19, "worked", "(I)I"⟩, prog_43_method_21_code, some .int, 6, 1, false) := rfl
theorem mcp_433 : mcp 433 = some (⟨RX19, "feltOf", "(II)I"⟩, prog_43_method_65_code, some .int, 4, 2, false) := rfl
theorem mcp_437 : mcp 437 = some (⟨RX19, "away", "(II)I"⟩, prog_43_method_5_code, some .int, 2, 2, true) := rfl
theorem mcp_440 : mcp 440 = some (⟨RX19, "farOf", "(I)I"⟩, prog_43_method_67_code, some .int, 7, 1, false) := rfl
theorem mcp_448 : mcp 448 = some (⟨RX19, "feels", "(I)V"⟩, prog_43_method_66_code, none, 3, 1, false) := rfl
theorem mcp_451 : mcp 451 = some (⟨RX19, "opensTo", "(II)Z"⟩, prog_43_method_68_code, some .boolean, 4, 2, false) := rfl
theorem mcp_454 : mcp 454 = some (⟨RX19, "learns", "(II)V"⟩, prog_43_method_69_code, none, 5, 2, false) := rfl
theorem mcp_457 : mcp 457 = some (⟨RX19, "noSlips", "()V"⟩, prog_43_method_64_code, none, 2, 0, false) := rfl
theorem mcp_460 : mcp 460 = some (⟨RX19, "knocks", "(II)Z"⟩, prog_43_method_70_code, some .boolean, 7, 2, false) := rfl
theorem mcp_463 : mcp 463 = some (⟨RX19, "areBoth", "(II)Z"⟩, prog_43_method_58_code, some .boolean, 3, 2, false) := rfl
theorem mcp_466 : mcp 466 = some (⟨RX19, "areSlips", "(II)Z"⟩, prog_43_method_74_code, some .boolean, 6, 2, false) := rfl
theorem mcp_469 : mcp 469 = some (⟨RX19, "keeps", "()V"⟩, prog_43_method_76_code, none, 2, 0, false) := rfl
theorem mcp_472 : mcp 472 = some (⟨RX19, "halves", "(I)V"⟩, prog_43_method_80_code, none, 3, 1, false) := rfl
theorem mcp_475 : mcp 475 = some (⟨RX19, "says", "(I)V"⟩, prog_43_method_81_code, none, 7, 1, false) := rfl
theorem mcp_478 : mcp 478 = some (⟨RX19, "hears", "(II)V"⟩, prog_43_method_82_code, none, 4, 2, false) := rfl
theorem mcp_481 : mcp 481 = some (⟨RX19, "midnight", "()V"⟩, prog_43_method_83_code, none, 2, 0, false) := rfl
theorem mcp_484 : mcp 484 = some (⟨RX19, "passes", "()V"⟩, prog_43_method_84_code, none, 1, 0, false) := rfl
theorem mcp_487 : mcp 487 = some (⟨RX19, "saves", "(I)V"⟩, prog_43_method_51_code, none, 2, 1, false) := rfl
theorem mcp_490 : mcp 490 = some (⟨RX19, "tries", "(II)Z"⟩, prog_43_method_71_code, some .boolean, 3, 2, false) := rfl
theorem mcp_493 : mcp 493 = some (⟨RX19, "loads", "(I)V"⟩, prog_43_method_52_code, none, 2, 1, false) := rfl
theorem mcp_496 : mcp 496 = some (⟨RX19, "patienceOf", "(III)I"⟩, prog_43_method_87_code, some .int, 6, 3, false) := rfl
theorem mcp_499 : mcp 499 = some (⟨RX19, "looksOpen", "(II)Z"⟩, prog_43_method_72_code, some .boolean, 3, 2, false) := rfl
theorem mcp_502 : mcp 502 = some (⟨RX19, "slides", "(I)V"⟩, prog_43_method_90_code, none, 2, 1, false) := rfl
theorem mcp_505 : mcp 505 = some (⟨RX19, "gives", "(IIII)Z"⟩, prog_43_method_91_code, some .boolean, 7, 4, false) := rfl
theorem mcp_512 : mcp 512 = some (⟨RX19, "counts", "(II)V"⟩, prog_43_method_94_code, none, 8, 2, false) := rfl
theorem mcp_515 : mcp 515 = some (⟨RX19, "gcd", "(II)I"⟩, prog_43_method_7_code, some .int, 5, 2, true) := rfl
theorem mcp_518 : mcp 518 = some (⟨RX19, "toMidnight", "()V"⟩, prog_43_method_85_code, none, 1, 0, false) := rfl
theorem mcp_524 : mcp 524 = some (⟨RX19, "relives", "(I)V"⟩, prog_43_method_98_code, none, 6, 1, false) := rfl
theorem mcp_527 : mcp 527 = some (⟨RX19, "isFit", "(III)Z"⟩, prog_43_method_100_code, some .boolean, 6, 3, false) := rfl
theorem mcp_530 : mcp 530 = some (⟨RX19, "bits", "(I)I"⟩, prog_43_method_6_code, some .int, 3, 1, true) := rfl
theorem mcp_533 : mcp 533 = some (⟨RX19, "trains", "(IIIII)Z"⟩, prog_43_method_105_code, some .boolean, 8, 5, false) := rfl
theorem mcp_537 : mcp 537 = some (⟨RX19, "plays", "(I)V"⟩, prog_43_method_107_code, none, 7, 1, false) := rfl
theorem mcp_540 : mcp 540 = some (⟨RX19, "isRest", "(II)Z"⟩, prog_43_method_108_code, some .boolean, 4, 2, false) := rfl
theorem mcp_554 : mcp 554 = some (⟨RX19, "draws", "(I)I"⟩, prog_43_method_110_code, some .int, 2, 1, false) := rfl
