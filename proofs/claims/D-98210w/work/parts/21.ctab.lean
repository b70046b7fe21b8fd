/-! THE COMPONENT: its classes, fields, links (printed by gen/ctab.py) -/
set_option maxRecDepth 100000
def RX1 : String := "KnowLocks"
def TX1 : u_T := fun k => match k with
  | 0 => ("KnowLocks", "reader", "LKnowLocks$Reader;", true)
  | 1 => ("KnowLocks", "night", "LKnowLocks$Night;", false)
  | 2 => ("KnowLocks", "history", "Ljava/util/ArrayList;", false)
  | 3 => ("KnowLocks", "behind", "Ljava/util/ArrayList;", true)
  | 4 => ("KnowLocks", "breaks", "LKnowLocks$Breaks;", true)
  | 5 => ("KnowLocks", "openings", "I", false)
  | 6 => ("KnowLocks", "allSlips", "I", false)
  | 7 => ("KnowLocks", "errors", "LKnowLocks$Errors;", true)
  | 8 => ("KnowLocks", "fitted", "LKnowLocks$Night;", true)
  | 9 => ("KnowLocks", "trained", "LKnowLocks$Trained;", true)
  | 10 => ("KnowLocks", "game", "LKnowLocks$Game;", true)
  | 11 => ("KnowLocks", "g", "J", false)
  | _ => ("KnowLocks", "marks", "[LKnowLocks$Mark;", true)
def tyX1 : Nat → FieldType := fun k => match k with
  | 0 => .object "KnowLocks$Reader"
  | 1 => .object "KnowLocks$Night"
  | 2 => .object "java/util/ArrayList"
  | 3 => .object "java/util/ArrayList"
  | 4 => .object "KnowLocks$Breaks"
  | 5 => .int
  | 6 => .int
  | 7 => .object "KnowLocks$Errors"
  | 8 => .object "KnowLocks$Night"
  | 9 => .object "KnowLocks$Trained"
  | 10 => .object "KnowLocks$Game"
  | 11 => .long
  | _ => .array (.object "KnowLocks$Mark")
abbrev wsX10 : List Cond := u_ws RX1 TX1 13
theorem in_X1 : ∀ w ∈ wsX10, w ∈ lw_all := lw_in wsX10 [701, 703, 705, 707, 709, 711, 713, 715, 717, 719, 721, 723, 725] (by decide +kernel) (by decide +kernel)
def RX2 : String := "KnowLocks$Reader"
def TX2 : u_T := fun k => match k with
  | 0 => ("KnowLocks$Reader", "learnFacts", "[Ljava/lang/String;", true)
  | 1 => ("KnowLocks$Reader", "feelFacts", "[Ljava/lang/String;", true)
  | 2 => ("KnowLocks$Reader", "handKinds", "[Ljava/lang/String;", true)
  | 3 => ("KnowLocks$Reader", "doorKinds", "[Ljava/lang/String;", true)
  | 4 => ("KnowLocks$Reader", "kept", "[Ljava/lang/String;", true)
  | 5 => ("KnowLocks$Reader", "hows", "[Ljava/lang/String;", true)
  | 6 => ("KnowLocks$Reader", "draft", "LKnowLocks$Quarter;", false)
  | 7 => ("KnowLocks$Reader", "hasGossip", "Z", false)
  | 8 => ("KnowLocks$Reader", "facts", "[Ljava/lang/String;", false)
  | 9 => ("KnowLocks$Reader", "tape", "[I", true)
  | 10 => ("KnowLocks$Reader", "taped", "I", false)
  | 11 => ("KnowLocks$Reader", "sort", "[I", true)
  | 12 => ("KnowLocks$Reader", "value", "[J", true)
  | 13 => ("KnowLocks$Reader", "place", "[I", true)
  | 14 => ("KnowLocks$Reader", "at", "I", false)
  | _ => ("KnowLocks$Reader", "deep", "I", false)
def tyX2 : Nat → FieldType := fun k => match k with
  | 0 => .array (.object "java/lang/String")
  | 1 => .array (.object "java/lang/String")
  | 2 => .array (.object "java/lang/String")
  | 3 => .array (.object "java/lang/String")
  | 4 => .array (.object "java/lang/String")
  | 5 => .array (.object "java/lang/String")
  | 6 => .object "KnowLocks$Quarter"
  | 7 => .boolean
  | 8 => .array (.object "java/lang/String")
  | 9 => .array .int
  | 10 => .int
  | 11 => .array .int
  | 12 => .array .long
  | 13 => .array .int
  | 14 => .int
  | _ => .int
abbrev wsX20 : List Cond := u_ws RX2 TX2 16
theorem in_X2 : ∀ w ∈ wsX20, w ∈ lw_all := lw_in wsX20 [258, 260, 262, 264, 266, 268, 270, 272, 274, 276, 278, 280, 282, 284, 286, 288] (by decide +kernel) (by decide +kernel)
def RX3 : String := "KnowLocks$Night"
def TX3 : u_T := fun k => match k with
  | 0 => ("KnowLocks$Night", "quarter", "LKnowLocks$Quarter;", false)
  | 1 => ("KnowLocks$Night", "hour", "I", false)
  | 2 => ("KnowLocks$Night", "day", "I", false)
  | 3 => ("KnowLocks$Night", "locks", "[LKnowLocks$Lock;", true)
  | 4 => ("KnowLocks$Night", "kept", "[LKnowLocks$Lock;", true)
  | 5 => ("KnowLocks$Night", "felt", "[I", true)
  | 6 => ("KnowLocks$Night", "told", "[[I", true)
  | _ => ("KnowLocks$Night", "tells", "[Z", true)
def tyX3 : Nat → FieldType := fun k => match k with
  | 0 => .object "KnowLocks$Quarter"
  | 1 => .int
  | 2 => .int
  | 3 => .array (.object "KnowLocks$Lock")
  | 4 => .array (.object "KnowLocks$Lock")
  | 5 => .array .int
  | 6 => .array (.array .int)
  | _ => .array .boolean
abbrev wsX30 : List Cond := u_ws RX3 TX3 8
theorem in_X3 : ∀ w ∈ wsX30, w ∈ lw_all := lw_in wsX30 [319, 321, 323, 325, 327, 329, 331, 333] (by decide +kernel) (by decide +kernel)
def RX4 : String := "KnowLocks$Quarter"
def TX4 : u_T := fun k => match k with
  | 0 => ("KnowLocks$Quarter", "hands", "Ljava/util/ArrayList;", true)
  | 1 => ("KnowLocks$Quarter", "doorNames", "Ljava/util/ArrayList;", true)
  | 2 => ("KnowLocks$Quarter", "kind", "[I", true)
  | 3 => ("KnowLocks$Quarter", "near", "[I", true)
  | 4 => ("KnowLocks$Quarter", "streets", "Ljava/util/ArrayList;", true)
  | 5 => ("KnowLocks$Quarter", "gossip", "I", false)
  | 6 => ("KnowLocks$Quarter", "guardFrom", "I", false)
  | 7 => ("KnowLocks$Quarter", "guardTo", "I", false)
  | 8 => ("KnowLocks$Quarter", "hasGuard", "Z", false)
  | 9 => ("KnowLocks$Quarter", "learn", "LKnowLocks$Expression;", false)
  | 10 => ("KnowLocks$Quarter", "feel", "LKnowLocks$Expression;", false)
  | _ => ("KnowLocks$Quarter", "facts", "LKnowLocks$Facts;", true)
def tyX4 : Nat → FieldType := fun k => match k with
  | 0 => .object "java/util/ArrayList"
  | 1 => .object "java/util/ArrayList"
  | 2 => .array .int
  | 3 => .array .int
  | 4 => .object "java/util/ArrayList"
  | 5 => .int
  | 6 => .int
  | 7 => .int
  | 8 => .boolean
  | 9 => .object "KnowLocks$Expression"
  | 10 => .object "KnowLocks$Expression"
  | _ => .object "KnowLocks$Facts"
abbrev wsX40 : List Cond := u_ws RX4 TX4 12
theorem in_X4 : ∀ w ∈ wsX40, w ∈ lw_all := lw_in wsX40 [418, 420, 422, 424, 426, 428, 430, 432, 434, 436, 438, 440] (by decide +kernel) (by decide +kernel)
def RX5 : String := "KnowLocks$Facts"
def TX5 : u_T := fun k => match k with
  | _ => ("KnowLocks$Facts", "of", "[I", true)
def tyX5 : Nat → FieldType := fun k => match k with
  | _ => .array .int
abbrev wsX50 : List Cond := u_ws RX5 TX5 1
theorem in_X5 : ∀ w ∈ wsX50, w ∈ lw_all := lw_in wsX50 [380] (by decide +kernel) (by decide +kernel)
def RX6 : String := "KnowLocks$Lock"
def TX6 : u_T := fun k => match k with
  | 0 => ("KnowLocks$Lock", "mind", "LKnowLocks$Mind;", false)
  | 1 => ("KnowLocks$Lock", "near", "I", false)
  | 2 => ("KnowLocks$Lock", "times", "I", false)
  | 3 => ("KnowLocks$Lock", "shut", "I", false)
  | 4 => ("KnowLocks$Lock", "isLocked", "Z", false)
  | 5 => ("KnowLocks$Lock", "tries", "I", false)
  | _ => ("KnowLocks$Lock", "opened", "I", false)
def tyX6 : Nat → FieldType := fun k => match k with
  | 0 => .object "KnowLocks$Mind"
  | 1 => .int
  | 2 => .int
  | 3 => .int
  | 4 => .boolean
  | 5 => .int
  | _ => .int
abbrev wsX60 : List Cond := u_ws RX6 TX6 7
theorem in_X6 : ∀ w ∈ wsX60, w ∈ lw_all := lw_in wsX60 [548, 550, 552, 554, 556, 558, 560] (by decide +kernel) (by decide +kernel)
def RX10 : String := "KnowLocks$Mean"
def TX10 : u_T := fun k => match k with
  | 0 => ("KnowLocks$Mean", "sums", "[I", true)
  | _ => ("KnowLocks$Mean", "weight", "I", false)
def tyX10 : Nat → FieldType := fun k => match k with
  | 0 => .array .int
  | _ => .int
abbrev wsX100 : List Cond := u_ws RX10 TX10 2
theorem in_X10 : ∀ w ∈ wsX100, w ∈ lw_all := lw_in wsX100 [524, 525] (by decide +kernel) (by decide +kernel)
def RX11 : String := "KnowLocks$Cheap"
def TX11 : u_T := fun k => match k with
  | 0 => ("KnowLocks$Mean", "sums", "[I", true)
  | _ => ("KnowLocks$Mean", "weight", "I", false)
def tyX11 : Nat → FieldType := fun k => match k with
  | 0 => .array .int
  | _ => .int
abbrev wsX110 : List Cond := u_ws RX11 TX11 2
theorem in_X11 : ∀ w ∈ wsX110, w ∈ lw_all := lw_in wsX110 [500, 502] (by decide +kernel) (by decide +kernel)
def RX12 : String := "KnowLocks$Nervous"
def TX12 : u_T := fun k => match k with
  | 0 => ("KnowLocks$Mean", "sums", "[I", true)
  | _ => ("KnowLocks$Mean", "weight", "I", false)
def tyX12 : Nat → FieldType := fun k => match k with
  | 0 => .array .int
  | _ => .int
abbrev wsX120 : List Cond := u_ws RX12 TX12 2
theorem in_X12 : ∀ w ∈ wsX120, w ∈ lw_all := lw_in wsX120 [511, 512] (by decide +kernel) (by decide +kernel)
def RX8 : String := "KnowLocks$Nearest"
def TX8 : u_T := fun k => match k with
  | 0 => ("KnowLocks$Nearest", "rows", "[I", true)
  | _ => ("KnowLocks$Nearest", "many", "I", false)
def tyX8 : Nat → FieldType := fun k => match k with
  | 0 => .array .int
  | _ => .int
abbrev wsX80 : List Cond := u_ws RX8 TX8 2
theorem in_X8 : ∀ w ∈ wsX80, w ∈ lw_all := lw_in wsX80 [474, 476] (by decide +kernel) (by decide +kernel)
def RX9 : String := "KnowLocks$Counts"
def TX9 : u_T := fun k => match k with
  | _ => ("KnowLocks$Counts", "counts", "[I", true)
def tyX9 : Nat → FieldType := fun k => match k with
  | _ => .array .int
abbrev wsX90 : List Cond := u_ws RX9 TX9 1
theorem in_X9 : ∀ w ∈ wsX90, w ∈ lw_all := lw_in wsX90 [486] (by decide +kernel) (by decide +kernel)
def RX13 : String := "KnowLocks$Bank"
def TX13 : u_T := fun _ => ("", "", "", false)
def tyX13 : Nat → FieldType := fun _ => .int
abbrev wsX130 : List Cond := u_ws RX13 TX13 0
theorem in_X13 : ∀ w ∈ wsX130, w ∈ lw_all := fun w h => by cases h
def RX21 : String := "KnowLocks$Hand"
def TX21 : u_T := fun k => match k with
  | 0 => ("KnowLocks$Hand", "name", "J", true)
  | 1 => ("KnowLocks$Hand", "marks", "[I", true)
  | 2 => ("KnowLocks$Hand", "slip", "I", true)
  | _ => ("KnowLocks$Hand", "trust", "I", true)
def tyX21 : Nat → FieldType := fun k => match k with
  | 0 => .long
  | 1 => .array .int
  | 2 => .int
  | _ => .int
abbrev wsX210 : List Cond := u_ws RX21 TX21 4
theorem in_X21 : ∀ w ∈ wsX210, w ∈ lw_all := lw_in wsX210 [1082, 1083, 1084, 1085] (by decide +kernel) (by decide +kernel)
def RX22 : String := "KnowLocks$Maid"
def TX22 : u_T := fun k => match k with
  | 0 => ("KnowLocks$Hand", "name", "J", true)
  | 1 => ("KnowLocks$Hand", "marks", "[I", true)
  | 2 => ("KnowLocks$Hand", "slip", "I", true)
  | _ => ("KnowLocks$Hand", "trust", "I", true)
def tyX22 : Nat → FieldType := fun k => match k with
  | 0 => .long
  | 1 => .array .int
  | 2 => .int
  | _ => .int
abbrev wsX220 : List Cond := u_ws RX22 TX22 4
theorem in_X22 : ∀ w ∈ wsX220, w ∈ lw_all := lw_in wsX220 [1034, 1036, 1038, 1040] (by decide +kernel) (by decide +kernel)
def RX24 : String := "KnowLocks$Child"
def TX24 : u_T := fun k => match k with
  | 0 => ("KnowLocks$Hand", "name", "J", true)
  | 1 => ("KnowLocks$Hand", "marks", "[I", true)
  | 2 => ("KnowLocks$Hand", "slip", "I", true)
  | _ => ("KnowLocks$Hand", "trust", "I", true)
def tyX24 : Nat → FieldType := fun k => match k with
  | 0 => .long
  | 1 => .array .int
  | 2 => .int
  | _ => .int
abbrev wsX240 : List Cond := u_ws RX24 TX24 4
theorem in_X24 : ∀ w ∈ wsX240, w ∈ lw_all := lw_in wsX240 [1052, 1053, 1054, 1055] (by decide +kernel) (by decide +kernel)
def RX25 : String := "KnowLocks$Dog"
def TX25 : u_T := fun k => match k with
  | 0 => ("KnowLocks$Hand", "name", "J", true)
  | 1 => ("KnowLocks$Hand", "marks", "[I", true)
  | 2 => ("KnowLocks$Hand", "slip", "I", true)
  | _ => ("KnowLocks$Hand", "trust", "I", true)
def tyX25 : Nat → FieldType := fun k => match k with
  | 0 => .long
  | 1 => .array .int
  | 2 => .int
  | _ => .int
abbrev wsX250 : List Cond := u_ws RX25 TX25 4
theorem in_X25 : ∀ w ∈ wsX250, w ∈ lw_all := lw_in wsX250 [1063, 1064, 1065, 1066] (by decide +kernel) (by decide +kernel)
def RX26 : String := "KnowLocks$Twin"
def TX26 : u_T := fun k => match k with
  | 0 => ("KnowLocks$Hand", "name", "J", true)
  | 1 => ("KnowLocks$Hand", "marks", "[I", true)
  | 2 => ("KnowLocks$Hand", "slip", "I", true)
  | _ => ("KnowLocks$Hand", "trust", "I", true)
def tyX26 : Nat → FieldType := fun k => match k with
  | 0 => .long
  | 1 => .array .int
  | 2 => .int
  | _ => .int
abbrev wsX260 : List Cond := u_ws RX26 TX26 4
theorem in_X26 : ∀ w ∈ wsX260, w ∈ lw_all := lw_in wsX260 [1074, 1075, 1076, 1077] (by decide +kernel) (by decide +kernel)
def RX29 : String := "KnowLocks$Plain"
def TX29 : u_T := fun k => match k with
  | _ => ("KnowLocks$Plain", "n", "I", true)
def tyX29 : Nat → FieldType := fun k => match k with
  | _ => .int
abbrev wsX290 : List Cond := u_ws RX29 TX29 1
theorem in_X29 : ∀ w ∈ wsX290, w ∈ lw_all := lw_in wsX290 [1266] (by decide +kernel) (by decide +kernel)
def RX28 : String := "KnowLocks$Fact"
def TX28 : u_T := fun k => match k with
  | _ => ("KnowLocks$Fact", "which", "I", true)
def tyX28 : Nat → FieldType := fun k => match k with
  | _ => .int
abbrev wsX280 : List Cond := u_ws RX28 TX28 1
theorem in_X28 : ∀ w ∈ wsX280, w ∈ lw_all := lw_in wsX280 [1256] (by decide +kernel) (by decide +kernel)
def RX30 : String := "KnowLocks$Not"
def TX30 : u_T := fun k => match k with
  | _ => ("KnowLocks$Not", "e", "LKnowLocks$Expression;", true)
def tyX30 : Nat → FieldType := fun k => match k with
  | _ => .object "KnowLocks$Expression"
abbrev wsX300 : List Cond := u_ws RX30 TX30 1
theorem in_X30 : ∀ w ∈ wsX300, w ∈ lw_all := lw_in wsX300 [1276] (by decide +kernel) (by decide +kernel)
def RX31 : String := "KnowLocks$Chain"
def TX31 : u_T := fun k => match k with
  | 0 => ("KnowLocks$Chain", "first", "LKnowLocks$Expression;", true)
  | _ => ("KnowLocks$Chain", "links", "Ljava/util/ArrayList;", true)
def tyX31 : Nat → FieldType := fun k => match k with
  | 0 => .object "KnowLocks$Expression"
  | _ => .object "java/util/ArrayList"
abbrev wsX310 : List Cond := u_ws RX31 TX31 2
theorem in_X31 : ∀ w ∈ wsX310, w ∈ lw_all := lw_in wsX310 [1301, 1303] (by decide +kernel) (by decide +kernel)
def RX34 : String := "KnowLocks$Plus"
def TX34 : u_T := fun k => match k with
  | _ => ("KnowLocks$Link", "e", "LKnowLocks$Expression;", true)
def tyX34 : Nat → FieldType := fun k => match k with
  | _ => .object "KnowLocks$Expression"
abbrev wsX340 : List Cond := u_ws RX34 TX34 1
theorem in_X34 : ∀ w ∈ wsX340, w ∈ lw_all := lw_in wsX340 [1325] (by decide +kernel) (by decide +kernel)
def RX35 : String := "KnowLocks$Minus"
def TX35 : u_T := fun k => match k with
  | _ => ("KnowLocks$Link", "e", "LKnowLocks$Expression;", true)
def tyX35 : Nat → FieldType := fun k => match k with
  | _ => .object "KnowLocks$Expression"
abbrev wsX350 : List Cond := u_ws RX35 TX35 1
theorem in_X35 : ∀ w ∈ wsX350, w ∈ lw_all := lw_in wsX350 [1333] (by decide +kernel) (by decide +kernel)
def RX33 : String := "KnowLocks$Times"
def TX33 : u_T := fun k => match k with
  | _ => ("KnowLocks$Link", "e", "LKnowLocks$Expression;", true)
def tyX33 : Nat → FieldType := fun k => match k with
  | _ => .object "KnowLocks$Expression"
abbrev wsX330 : List Cond := u_ws RX33 TX33 1
theorem in_X33 : ∀ w ∈ wsX330, w ∈ lw_all := lw_in wsX330 [1316] (by decide +kernel) (by decide +kernel)
def RX38 : String := "KnowLocks$And"
def TX38 : u_T := fun k => match k with
  | _ => ("KnowLocks$Link", "e", "LKnowLocks$Expression;", true)
def tyX38 : Nat → FieldType := fun k => match k with
  | _ => .object "KnowLocks$Expression"
abbrev wsX380 : List Cond := u_ws RX38 TX38 1
theorem in_X38 : ∀ w ∈ wsX380, w ∈ lw_all := lw_in wsX380 [1357] (by decide +kernel) (by decide +kernel)
def RX39 : String := "KnowLocks$Or"
def TX39 : u_T := fun k => match k with
  | _ => ("KnowLocks$Link", "e", "LKnowLocks$Expression;", true)
def tyX39 : Nat → FieldType := fun k => match k with
  | _ => .object "KnowLocks$Expression"
abbrev wsX390 : List Cond := u_ws RX39 TX39 1
theorem in_X39 : ∀ w ∈ wsX390, w ∈ lw_all := lw_in wsX390 [1365] (by decide +kernel) (by decide +kernel)
def RX36 : String := "KnowLocks$Less"
def TX36 : u_T := fun k => match k with
  | _ => ("KnowLocks$Link", "e", "LKnowLocks$Expression;", true)
def tyX36 : Nat → FieldType := fun k => match k with
  | _ => .object "KnowLocks$Expression"
abbrev wsX360 : List Cond := u_ws RX36 TX36 1
theorem in_X36 : ∀ w ∈ wsX360, w ∈ lw_all := lw_in wsX360 [1341] (by decide +kernel) (by decide +kernel)
def RX37 : String := "KnowLocks$Same"
def TX37 : u_T := fun k => match k with
  | _ => ("KnowLocks$Link", "e", "LKnowLocks$Expression;", true)
def tyX37 : Nat → FieldType := fun k => match k with
  | _ => .object "KnowLocks$Expression"
abbrev wsX370 : List Cond := u_ws RX37 TX37 1
theorem in_X37 : ∀ w ∈ wsX370, w ∈ lw_all := lw_in wsX370 [1349] (by decide +kernel) (by decide +kernel)
def RX40 : String := "KnowLocks$Tried"
def TX40 : u_T := fun k => match k with
  | 0 => ("KnowLocks$Tried", "hand", "I", true)
  | 1 => ("KnowLocks$Tried", "door", "I", true)
  | _ => ("KnowLocks$Tried", "opened", "Z", true)
def tyX40 : Nat → FieldType := fun k => match k with
  | 0 => .int
  | 1 => .int
  | _ => .boolean
abbrev wsX400 : List Cond := u_ws RX40 TX40 3
theorem in_X40 : ∀ w ∈ wsX400, w ∈ lw_all := lw_in wsX400 [1403, 1405, 1407] (by decide +kernel) (by decide +kernel)
def RX41 : String := "KnowLocks$Behind"
def TX41 : u_T := fun k => match k with
  | 0 => ("KnowLocks$Behind", "door", "I", true)
  | _ => ("KnowLocks$Behind", "lock", "LKnowLocks$Lock;", true)
def tyX41 : Nat → FieldType := fun k => match k with
  | 0 => .int
  | _ => .object "KnowLocks$Lock"
abbrev wsX410 : List Cond := u_ws RX41 TX41 2
theorem in_X41 : ∀ w ∈ wsX410, w ∈ lw_all := lw_in wsX410 [1736, 1738] (by decide +kernel) (by decide +kernel)
def RX42 : String := "KnowLocks$Mark"
def TX42 : u_T := fun k => match k with
  | 0 => ("KnowLocks$Mark", "night", "LKnowLocks$Night;", true)
  | _ => ("KnowLocks$Mark", "history", "Ljava/util/ArrayList;", true)
def tyX42 : Nat → FieldType := fun k => match k with
  | 0 => .object "KnowLocks$Night"
  | _ => .object "java/util/ArrayList"
abbrev wsX420 : List Cond := u_ws RX42 TX42 2
theorem in_X42 : ∀ w ∈ wsX420, w ∈ lw_all := lw_in wsX420 [2085, 2087] (by decide +kernel) (by decide +kernel)
def RX15 : String := "KnowLocks$Breaks"
def TX15 : u_T := fun k => match k with
  | 0 => ("KnowLocks$Deep", "row", "[I", true)
  | 1 => ("KnowLocks$Deep", "locks", "[LKnowLocks$Lock;", true)
  | 2 => ("KnowLocks$Deep", "this$0", "LKnowLocks;", true)
  | 3 => ("KnowLocks$Breaks", "hand", "I", false)
  | _ => ("KnowLocks$Breaks", "this$0", "LKnowLocks;", true)
def tyX15 : Nat → FieldType := fun k => match k with
  | 0 => .array .int
  | 1 => .array (.object "KnowLocks$Lock")
  | 2 => .object "KnowLocks"
  | 3 => .int
  | _ => .object "KnowLocks"
abbrev wsX150 : List Cond := u_ws RX15 TX15 5
theorem in_X15 : ∀ w ∈ wsX150, w ∈ lw_all := lw_in wsX150 [619, 621, 623, 615, 617] (by decide +kernel) (by decide +kernel)
def RX17 : String := "KnowLocks$Trained"
def TX17 : u_T := fun k => match k with
  | 0 => ("KnowLocks$Deep", "row", "[I", true)
  | 1 => ("KnowLocks$Deep", "locks", "[LKnowLocks$Lock;", true)
  | 2 => ("KnowLocks$Deep", "this$0", "LKnowLocks;", true)
  | _ => ("KnowLocks$Trained", "this$0", "LKnowLocks;", true)
def tyX17 : Nat → FieldType := fun k => match k with
  | 0 => .array .int
  | 1 => .array (.object "KnowLocks$Lock")
  | 2 => .object "KnowLocks"
  | _ => .object "KnowLocks"
abbrev wsX170 : List Cond := u_ws RX17 TX17 4
theorem in_X17 : ∀ w ∈ wsX170, w ∈ lw_all := lw_in wsX170 [663, 664, 665, 661] (by decide +kernel) (by decide +kernel)
def RX16 : String := "KnowLocks$Errors"
def TX16 : u_T := fun k => match k with
  | 0 => ("KnowLocks$Errors", "far", "[[I", true)
  | 1 => ("KnowLocks$Errors", "many", "[I", true)
  | 2 => ("KnowLocks$Errors", "lock", "LKnowLocks$Lock;", false)
  | 3 => ("KnowLocks$Errors", "above", "I", false)
  | 4 => ("KnowLocks$Errors", "below", "I", false)
  | _ => ("KnowLocks$Errors", "this$0", "LKnowLocks;", true)
def tyX16 : Nat → FieldType := fun k => match k with
  | 0 => .array (.array .int)
  | 1 => .array .int
  | 2 => .object "KnowLocks$Lock"
  | 3 => .int
  | 4 => .int
  | _ => .object "KnowLocks"
abbrev wsX160 : List Cond := u_ws RX16 TX16 6
theorem in_X16 : ∀ w ∈ wsX160, w ∈ lw_all := lw_in wsX160 [641, 643, 645, 647, 649, 651] (by decide +kernel) (by decide +kernel)
def RX18 : String := "KnowLocks$Game"
def TX18 : u_T := fun k => match k with
  | 0 => ("KnowLocks$Game", "patience", "[I", true)
  | 1 => ("KnowLocks$Game", "pays", "[I", true)
  | _ => ("KnowLocks$Game", "this$0", "LKnowLocks;", true)
def tyX18 : Nat → FieldType := fun k => match k with
  | 0 => .array .int
  | 1 => .array .int
  | _ => .object "KnowLocks"
abbrev wsX180 : List Cond := u_ws RX18 TX18 3
theorem in_X18 : ∀ w ∈ wsX180, w ∈ lw_all := lw_in wsX180 [676, 678, 680] (by decide +kernel) (by decide +kernel)
def RX20 : String := "KnowLocks$Wrong"
def TX20 : u_T := fun k => match k with
  | 0 => ("java/lang/Throwable", "cause", "Ljava/lang/Throwable;", false)
  | 1 => ("java/lang/Throwable", "stackTrace", "[Ljava/lang/StackTraceElement;", false)
  | 2 => ("java/lang/Throwable", "suppressedExceptions", "Ljava/util/List;", false)
  | 3 => ("java/lang/Throwable", "detailMessage", "Ljava/lang/String;", false)
  | 4 => ("java/lang/Throwable", "backtrace", "Ljava/lang/Object;", false)
  | 5 => ("java/lang/Throwable", "depth", "I", false)
  | _ => ("KnowLocks$Wrong", "fault", "I", true)
def tyX20 : Nat → FieldType := fun k => match k with
  | 0 => .object "java/lang/Throwable"
  | 1 => .array (.object "java/lang/StackTraceElement")
  | 2 => .object "java/util/List"
  | 3 => .object "java/lang/String"
  | 4 => .object "java/lang/Object"
  | 5 => .int
  | _ => .int
abbrev wsX200 : List Cond := u_ws RX20 TX20 7
theorem in_X20 : ∀ w ∈ wsX200, w ∈ lw_all := lw_in wsX200 [898, 900, 902, 904, 906, 946, 940] (by decide +kernel) (by decide +kernel)
def RJ2 : String := "java/util/ArrayList"
def TJ2 : u_T := fun k => match k with
  | 0 => ("java/util/AbstractList", "modCount", "I", false)
  | 1 => ("java/util/ArrayList", "elementData", "[Ljava/lang/Object;", false)
  | _ => ("java/util/ArrayList", "size", "I", false)
def tyJ2 : Nat → FieldType := fun k => match k with
  | 0 => .int
  | 1 => .array (.object "java/lang/Object")
  | _ => .int
abbrev wsJ20 : List Cond := u_ws RJ2 TJ2 3
theorem in_J2 : ∀ w ∈ wsJ20, w ∈ lw_all := lw_in wsJ20 [368, 364, 366] (by decide +kernel) (by decide +kernel)
def RJ15 : String := "java/lang/Long"
def TJ15 : u_T := fun k => match k with
  | _ => ("java/lang/Long", "value", "J", true)
def tyJ15 : Nat → FieldType := fun k => match k with
  | _ => .long
abbrev wsJ150 : List Cond := u_ws RJ15 TJ15 1
theorem in_J15 : ∀ w ∈ wsJ150, w ∈ lw_all := lw_in wsJ150 [1190] (by decide +kernel) (by decide +kernel)
def RJ17 : String := "java/util/NoSuchElementException"
def TJ17 : u_T := fun k => match k with
  | 0 => ("java/lang/Throwable", "cause", "Ljava/lang/Throwable;", false)
  | 1 => ("java/lang/Throwable", "stackTrace", "[Ljava/lang/StackTraceElement;", false)
  | 2 => ("java/lang/Throwable", "suppressedExceptions", "Ljava/util/List;", false)
  | 3 => ("java/lang/Throwable", "detailMessage", "Ljava/lang/String;", false)
  | 4 => ("java/lang/Throwable", "backtrace", "Ljava/lang/Object;", false)
  | _ => ("java/lang/Throwable", "depth", "I", false)
def tyJ17 : Nat → FieldType := fun k => match k with
  | 0 => .object "java/lang/Throwable"
  | 1 => .array (.object "java/lang/StackTraceElement")
  | 2 => .object "java/util/List"
  | 3 => .object "java/lang/String"
  | 4 => .object "java/lang/Object"
  | _ => .int
abbrev wsJ170 : List Cond := u_ws RJ17 TJ17 6
theorem in_J17 : ∀ w ∈ wsJ170, w ∈ lw_all := lw_in wsJ170 [2108, 2109, 2110, 2111, 2112, 2120] (by decide +kernel) (by decide +kernel)
abbrev cCl : List vw_C := [(RX1, TX1, 13), (RX2, TX2, 16), (RX3, TX3, 8), (RX4, TX4, 12), (RX5, TX5, 1), (RX6, TX6, 7), (RX10, TX10, 2), (RX11, TX11, 2), (RX12, TX12, 2), (RX8, TX8, 2), (RX9, TX9, 1), (RX13, TX13, 0), (RX21, TX21, 4), (RX22, TX22, 4), (RX24, TX24, 4), (RX25, TX25, 4), (RX26, TX26, 4), (RX29, TX29, 1), (RX28, TX28, 1), (RX30, TX30, 1), (RX31, TX31, 2), (RX34, TX34, 1), (RX35, TX35, 1), (RX33, TX33, 1), (RX38, TX38, 1), (RX39, TX39, 1), (RX36, TX36, 1), (RX37, TX37, 1), (RX40, TX40, 3), (RX41, TX41, 2), (RX42, TX42, 2), (RX15, TX15, 5), (RX17, TX17, 4), (RX16, TX16, 6), (RX18, TX18, 3), (RX20, TX20, 7), (RJ2, TJ2, 3), (RJ15, TJ15, 1), (RJ17, TJ17, 6), (RJ15, TJ15, 1)]
def cTy (ci : Nat) : Nat → FieldType := match ci with
  | 0 => tyX1
  | 1 => tyX2
  | 2 => tyX3
  | 3 => tyX4
  | 4 => tyX5
  | 5 => tyX6
  | 6 => tyX10
  | 7 => tyX11
  | 8 => tyX12
  | 9 => tyX8
  | 10 => tyX9
  | 11 => tyX13
  | 12 => tyX21
  | 13 => tyX22
  | 14 => tyX24
  | 15 => tyX25
  | 16 => tyX26
  | 17 => tyX29
  | 18 => tyX28
  | 19 => tyX30
  | 20 => tyX31
  | 21 => tyX34
  | 22 => tyX35
  | 23 => tyX33
  | 24 => tyX38
  | 25 => tyX39
  | 26 => tyX36
  | 27 => tyX37
  | 28 => tyX40
  | 29 => tyX41
  | 30 => tyX42
  | 31 => tyX15
  | 32 => tyX17
  | 33 => tyX16
  | 34 => tyX18
  | 35 => tyX20
  | 36 => tyJ2
  | 37 => tyJ15
  | 38 => tyJ17
  | _ => tyJ15
def cSz (ci : Nat) : Nat := ([13, 16, 8, 12, 1, 7, 2, 2, 2, 2, 1, 0, 4, 4, 4, 4, 4, 1, 1, 1, 2, 1, 1, 1, 1, 1, 1, 1, 3, 2, 2, 5, 4, 6, 3, 7, 3, 1, 6, 1] : List Nat).getD ci 0
/-- a class as the tables have it -/
def okC (ci : Nat) (q : vw_C) : Prop := (∀ w ∈ u_ws q.1 q.2.1 q.2.2, w ∈ lw_all) ∧ (∀ k, k < q.2.2 → parseFieldDescriptor (q.2.1 k).2.2.1 = some (cTy ci k)) ∧ (∀ a, a < q.2.2 → ∀ b, b < q.2.2 → a ≠ b → (q.2.1 a).2.1 ≠ (q.2.1 b).2.1 ∨ (q.2.1 a).1 ≠ (q.2.1 b).1) ∧ Cond.instantiable q.1 (cSz ci) ∈ lw_all ∧ Cond.initialized q.1 ∈ lw_all ∧ q.1 ≠ "java/lang/String"
theorem okc_0 : okC 0 (RX1, TX1, 13) := ⟨in_X1, by decide +kernel, by decide +kernel, (lw_g (lw_at lw_m1 64 rfl) rfl), (lw_g (lw_at lw_m1 1 rfl) rfl), by decide⟩
theorem okc_1 : okC 1 (RX2, TX2, 16) := ⟨in_X2, by decide +kernel, by decide +kernel, (lw_g (lw_at lw_m1 72 rfl) rfl), (lw_g (lw_at lw_m1 2 rfl) rfl), by decide⟩
theorem okc_2 : okC 2 (RX3, TX3, 8) := ⟨in_X3, by decide +kernel, by decide +kernel, (lw_g (lw_at lw_m1 167 rfl) rfl), (lw_g (lw_at lw_m1 3 rfl) rfl), by decide⟩
theorem okc_3 : okC 3 (RX4, TX4, 12) := ⟨in_X4, by decide +kernel, by decide +kernel, (lw_g (lw_at lw_m1 210 rfl) rfl), (lw_g (lw_at lw_m1 4 rfl) rfl), by decide⟩
theorem okc_4 : okC 4 (RX5, TX5, 1) := ⟨in_X5, by decide +kernel, by decide +kernel, (lw_g (lw_at lw_m2 4 rfl) rfl), (lw_g (lw_at lw_m1 8 rfl) rfl), by decide⟩
theorem okc_5 : okC 5 (RX6, TX6, 7) := ⟨in_X6, by decide +kernel, by decide +kernel, (lw_g (lw_at lw_m2 91 rfl) rfl), (lw_g (lw_at lw_m1 9 rfl) rfl), by decide⟩
theorem okc_6 : okC 6 (RX10, TX10, 2) := ⟨in_X10, by decide +kernel, by decide +kernel, (lw_g (lw_at lw_m2 154 rfl) rfl), (lw_g (lw_at lw_m1 13 rfl) rfl), by decide⟩
theorem okc_7 : okC 7 (RX11, TX11, 2) := ⟨in_X11, by decide +kernel, by decide +kernel, (lw_g (lw_at lw_m2 122 rfl) rfl), (lw_g (lw_at lw_m1 14 rfl) rfl), by decide⟩
theorem okc_8 : okC 8 (RX12, TX12, 2) := ⟨in_X12, by decide +kernel, by decide +kernel, (lw_g (lw_at lw_m2 138 rfl) rfl), (lw_g (lw_at lw_m1 15 rfl) rfl), by decide⟩
theorem okc_9 : okC 9 (RX8, TX8, 2) := ⟨in_X8, by decide +kernel, by decide +kernel, (lw_g (lw_at lw_m2 96 rfl) rfl), (lw_g (lw_at lw_m1 11 rfl) rfl), by decide⟩
theorem okc_10 : okC 10 (RX9, TX9, 1) := ⟨in_X9, by decide +kernel, by decide +kernel, (lw_g (lw_at lw_m2 112 rfl) rfl), (lw_g (lw_at lw_m1 12 rfl) rfl), by decide⟩
theorem okc_11 : okC 11 (RX13, TX13, 0) := ⟨in_X13, by decide +kernel, by decide +kernel, (lw_g (lw_at lw_m2 147 rfl) rfl), (lw_g (lw_at lw_m1 16 rfl) rfl), by decide⟩
theorem okc_12 : okC 12 (RX21, TX21, 4) := ⟨in_X21, by decide +kernel, by decide +kernel, (lw_g (lw_at lw_m4 232 rfl) rfl), (lw_g (lw_at lw_m1 33 rfl) rfl), by decide⟩
theorem okc_13 : okC 13 (RX22, TX22, 4) := ⟨in_X22, by decide +kernel, by decide +kernel, (lw_g (lw_at lw_m4 166 rfl) rfl), (lw_g (lw_at lw_m1 34 rfl) rfl), by decide⟩
theorem okc_14 : okC 14 (RX24, TX24, 4) := ⟨in_X24, by decide +kernel, by decide +kernel, (lw_g (lw_at lw_m4 196 rfl) rfl), (lw_g (lw_at lw_m1 36 rfl) rfl), by decide⟩
theorem okc_15 : okC 15 (RX25, TX25, 4) := ⟨in_X25, by decide +kernel, by decide +kernel, (lw_g (lw_at lw_m4 210 rfl) rfl), (lw_g (lw_at lw_m1 37 rfl) rfl), by decide⟩
theorem okc_16 : okC 16 (RX26, TX26, 4) := ⟨in_X26, by decide +kernel, by decide +kernel, (lw_g (lw_at lw_m4 221 rfl) rfl), (lw_g (lw_at lw_m1 38 rfl) rfl), by decide⟩
theorem okc_17 : okC 17 (RX29, TX29, 1) := ⟨in_X29, by decide +kernel, by decide +kernel, (lw_g (lw_at lw_m5 172 rfl) rfl), (lw_g (lw_at lw_m1 47 rfl) rfl), by decide⟩
theorem okc_18 : okC 18 (RX28, TX28, 1) := ⟨in_X28, by decide +kernel, by decide +kernel, (lw_g (lw_at lw_m5 159 rfl) rfl), (lw_g (lw_at lw_m1 46 rfl) rfl), by decide⟩
theorem okc_19 : okC 19 (RX30, TX30, 1) := ⟨in_X30, by decide +kernel, by decide +kernel, (lw_g (lw_at lw_m5 182 rfl) rfl), (lw_g (lw_at lw_m1 48 rfl) rfl), by decide⟩
theorem okc_20 : okC 20 (RX31, TX31, 2) := ⟨in_X31, by decide +kernel, by decide +kernel, (lw_g (lw_at lw_m5 203 rfl) rfl), (lw_g (lw_at lw_m1 49 rfl) rfl), by decide⟩
theorem okc_21 : okC 21 (RX34, TX34, 1) := ⟨in_X34, by decide +kernel, by decide +kernel, (lw_g (lw_at lw_m5 232 rfl) rfl), (lw_g (lw_at lw_m1 52 rfl) rfl), by decide⟩
theorem okc_22 : okC 22 (RX35, TX35, 1) := ⟨in_X35, by decide +kernel, by decide +kernel, (lw_g (lw_at lw_m6 0 rfl) rfl), (lw_g (lw_at lw_m1 53 rfl) rfl), by decide⟩
theorem okc_23 : okC 23 (RX33, TX33, 1) := ⟨in_X33, by decide +kernel, by decide +kernel, (lw_g (lw_at lw_m5 219 rfl) rfl), (lw_g (lw_at lw_m1 51 rfl) rfl), by decide⟩
theorem okc_24 : okC 24 (RX38, TX38, 1) := ⟨in_X38, by decide +kernel, by decide +kernel, (lw_g (lw_at lw_m6 24 rfl) rfl), (lw_g (lw_at lw_m1 56 rfl) rfl), by decide⟩
theorem okc_25 : okC 25 (RX39, TX39, 1) := ⟨in_X39, by decide +kernel, by decide +kernel, (lw_g (lw_at lw_m6 32 rfl) rfl), (lw_g (lw_at lw_m1 57 rfl) rfl), by decide⟩
theorem okc_26 : okC 26 (RX36, TX36, 1) := ⟨in_X36, by decide +kernel, by decide +kernel, (lw_g (lw_at lw_m6 8 rfl) rfl), (lw_g (lw_at lw_m1 54 rfl) rfl), by decide⟩
theorem okc_27 : okC 27 (RX37, TX37, 1) := ⟨in_X37, by decide +kernel, by decide +kernel, (lw_g (lw_at lw_m6 16 rfl) rfl), (lw_g (lw_at lw_m1 55 rfl) rfl), by decide⟩
theorem okc_28 : okC 28 (RX40, TX40, 3) := ⟨in_X40, by decide +kernel, by decide +kernel, (lw_g (lw_at lw_m6 64 rfl) rfl), (lw_g (lw_at lw_m1 58 rfl) rfl), by decide⟩
theorem okc_29 : okC 29 (RX41, TX41, 2) := ⟨in_X41, by decide +kernel, by decide +kernel, (lw_g (lw_at lw_m7 124 rfl) rfl), (lw_g (lw_at lw_m1 59 rfl) rfl), by decide⟩
theorem okc_30 : okC 30 (RX42, TX42, 2) := ⟨in_X42, by decide +kernel, by decide +kernel, (lw_g (lw_at lw_m9 28 rfl) rfl), (lw_g (lw_at lw_m1 62 rfl) rfl), by decide⟩
theorem okc_31 : okC 31 (RX15, TX15, 5) := ⟨in_X15, by decide +kernel, by decide +kernel, (lw_g (lw_at lw_m2 223 rfl) rfl), (lw_g (lw_at lw_m1 18 rfl) rfl), by decide⟩
theorem okc_32 : okC 32 (RX17, TX17, 4) := ⟨in_X17, by decide +kernel, by decide +kernel, (lw_g (lw_at lw_m3 47 rfl) rfl), (lw_g (lw_at lw_m1 20 rfl) rfl), by decide⟩
theorem okc_33 : okC 33 (RX16, TX16, 6) := ⟨in_X16, by decide +kernel, by decide +kernel, (lw_g (lw_at lw_m3 19 rfl) rfl), (lw_g (lw_at lw_m1 19 rfl) rfl), by decide⟩
theorem okc_34 : okC 34 (RX18, TX18, 3) := ⟨in_X18, by decide +kernel, by decide +kernel, (lw_g (lw_at lw_m3 60 rfl) rfl), (lw_g (lw_at lw_m1 21 rfl) rfl), by decide⟩
theorem okc_35 : okC 35 (RX20, TX20, 7) := ⟨in_X20, by decide +kernel, by decide +kernel, (lw_g (lw_at lw_m4 42 rfl) rfl), (lw_g (lw_at lw_m1 31 rfl) rfl), by decide⟩
theorem okc_36 : okC 36 (RJ2, TJ2, 3) := ⟨in_J2, by decide +kernel, by decide +kernel, (lw_g (lw_at lw_m1 216 rfl) rfl), (lw_g (lw_at lw_m1 7 rfl) rfl), by decide⟩
theorem okc_37 : okC 37 (RJ15, TJ15, 1) := ⟨in_J15, by decide +kernel, by decide +kernel, (lw_g (lw_at lw_m5 93 rfl) rfl), (lw_g (lw_at lw_m1 43 rfl) rfl), by decide⟩
theorem okc_38 : okC 38 (RJ17, TJ17, 6) := ⟨in_J17, by decide +kernel, by decide +kernel, (lw_g (lw_at lw_m9 55 rfl) rfl), (lw_g (lw_at lw_m1 61 rfl) rfl), by decide⟩
theorem okc_39 : okC 39 (RJ15, TJ15, 1) := ⟨in_J15, by decide +kernel, by decide +kernel, (lw_g (lw_at lw_m5 93 rfl) rfl), (lw_g (lw_at lw_m1 43 rfl) rfl), by decide⟩
theorem cCl_ok (ci : Nat) (q : vw_C) (h : cCl[ci]? = some q) : okC ci q := by
  match ci, h with
  | 0, h => cases h; exact okc_0
  | 1, h => cases h; exact okc_1
  | 2, h => cases h; exact okc_2
  | 3, h => cases h; exact okc_3
  | 4, h => cases h; exact okc_4
  | 5, h => cases h; exact okc_5
  | 6, h => cases h; exact okc_6
  | 7, h => cases h; exact okc_7
  | 8, h => cases h; exact okc_8
  | 9, h => cases h; exact okc_9
  | 10, h => cases h; exact okc_10
  | 11, h => cases h; exact okc_11
  | 12, h => cases h; exact okc_12
  | 13, h => cases h; exact okc_13
  | 14, h => cases h; exact okc_14
  | 15, h => cases h; exact okc_15
  | 16, h => cases h; exact okc_16
  | 17, h => cases h; exact okc_17
  | 18, h => cases h; exact okc_18
  | 19, h => cases h; exact okc_19
  | 20, h => cases h; exact okc_20
  | 21, h => cases h; exact okc_21
  | 22, h => cases h; exact okc_22
  | 23, h => cases h; exact okc_23
  | 24, h => cases h; exact okc_24
  | 25, h => cases h; exact okc_25
  | 26, h => cases h; exact okc_26
  | 27, h => cases h; exact okc_27
  | 28, h => cases h; exact okc_28
  | 29, h => cases h; exact okc_29
  | 30, h => cases h; exact okc_30
  | 31, h => cases h; exact okc_31
  | 32, h => cases h; exact okc_32
  | 33, h => cases h; exact okc_33
  | 34, h => cases h; exact okc_34
  | 35, h => cases h; exact okc_35
  | 36, h => cases h; exact okc_36
  | 37, h => cases h; exact okc_37
  | 38, h => cases h; exact okc_38
  | 39, h => cases h; exact okc_39
  | n + 40, h => cases h
def oN (o : Nat) : String := (["KnowLocks", "KnowLocks$Reader", "KnowLocks$Night", "KnowLocks$Quarter", "KnowLocks$Facts", "KnowLocks$Lock", "KnowLocks$Mean", "KnowLocks$Cheap", "KnowLocks$Nervous", "KnowLocks$Nearest", "KnowLocks$Counts", "KnowLocks$Bank", "KnowLocks$Hand", "KnowLocks$Maid", "KnowLocks$Child", "KnowLocks$Dog", "KnowLocks$Twin", "KnowLocks$Plain", "KnowLocks$Fact", "KnowLocks$Not", "KnowLocks$Chain", "KnowLocks$Plus", "KnowLocks$Minus", "KnowLocks$Times", "KnowLocks$And", "KnowLocks$Or", "KnowLocks$Less", "KnowLocks$Same", "KnowLocks$Tried", "KnowLocks$Behind", "KnowLocks$Mark", "KnowLocks$Breaks", "KnowLocks$Trained", "KnowLocks$Errors", "KnowLocks$Game", "KnowLocks$Wrong", "java/util/ArrayList", "java/lang/Long", "java/util/NoSuchElementException", "KnowLocks$Expression", "KnowLocks$Link", "KnowLocks$Mind", "KnowLocks$Stranger", "KnowLocks$Deep", "java/util/AbstractList", "java/util/AbstractCollection", "java/util/Objects", "jdk/internal/util/Preconditions", "jdk/internal/util/ArraysSupport", "java/util/Arrays", "java/lang/Math", "java/lang/Number", "java/lang/Object"] : List String).getD o ""
abbrev cTk (ci k : Nat) : String × String × String × Bool := ((cCl.getD ci ("", (fun _ => ("", "", "", false)), 0)).2.1 k)
def FOK (own : String) (idx ci k : Nat) : Prop := k < (cCl.getD ci ("", (fun _ => ("", "", "", false)), 0)).2.2 ∧ ∃ ref : String, (Cond.fieldLink own idx ref (cTk ci k).2.1 (cTk ci k).2.2.1 ∈ lw_all ∨ ∃ host, Cond.fieldLinkNest own idx ref (cTk ci k).2.1 (cTk ci k).2.2.1 host ∈ nwl ∧ own ≠ (cTk ci k).1) ∧ (ref = (cTk ci k).1 ∨ Cond.sameField ref (cTk ci k).1 (cTk ci k).2.1 (cTk ci k).2.2.1 ∈ lw_all)
theorem fok_0_56_0 : FOK "KnowLocks" 56 0 0 := ⟨by decide, "KnowLocks", Or.inl (lw_g (lw_at lw_m3 77 rfl) rfl), Or.inl rfl⟩
theorem fok_0_70_0 : FOK "KnowLocks" 70 0 1 := ⟨by decide, "KnowLocks", Or.inl (lw_g (lw_at lw_m3 81 rfl) rfl), Or.inl rfl⟩
theorem fok_0_77_0 : FOK "KnowLocks" 77 0 2 := ⟨by decide, "KnowLocks", Or.inl (lw_g (lw_at lw_m3 82 rfl) rfl), Or.inl rfl⟩
theorem fok_0_81_0 : FOK "KnowLocks" 81 0 3 := ⟨by decide, "KnowLocks", Or.inl (lw_g (lw_at lw_m3 83 rfl) rfl), Or.inl rfl⟩
theorem fok_0_89_0 : FOK "KnowLocks" 89 0 4 := ⟨by decide, "KnowLocks", Or.inl (lw_g (lw_at lw_m3 84 rfl) rfl), Or.inl rfl⟩
theorem fok_0_96_0 : FOK "KnowLocks" 96 0 7 := ⟨by decide, "KnowLocks", Or.inl (lw_g (lw_at lw_m3 87 rfl) rfl), Or.inl rfl⟩
theorem fok_0_100_0 : FOK "KnowLocks" 100 0 8 := ⟨by decide, "KnowLocks", Or.inl (lw_g (lw_at lw_m3 88 rfl) rfl), Or.inl rfl⟩
theorem fok_0_106_0 : FOK "KnowLocks" 106 0 9 := ⟨by decide, "KnowLocks", Or.inl (lw_g (lw_at lw_m3 89 rfl) rfl), Or.inl rfl⟩
theorem fok_0_113_0 : FOK "KnowLocks" 113 0 10 := ⟨by decide, "KnowLocks", Or.inl (lw_g (lw_at lw_m3 90 rfl) rfl), Or.inl rfl⟩
theorem fok_0_119_0 : FOK "KnowLocks" 119 0 12 := ⟨by decide, "KnowLocks", Or.inl (lw_g (lw_at lw_m3 92 rfl) rfl), Or.inl rfl⟩
theorem fok_0_127_1 : FOK "KnowLocks" 127 1 10 := ⟨by decide, "KnowLocks$Reader", Or.inl (lw_g (lw_at lw_m1 124 rfl) rfl), Or.inl rfl⟩
theorem fok_0_140_35 : FOK "KnowLocks" 140 35 6 := ⟨by decide, "KnowLocks$Wrong", Or.inl (lw_g (lw_at lw_m4 87 rfl) rfl), Or.inl rfl⟩
theorem fok_0_149_2 : FOK "KnowLocks" 149 2 0 := ⟨by decide, "KnowLocks$Night", Or.inl (lw_g (lw_at lw_m1 177 rfl) rfl), Or.inl rfl⟩
theorem fok_0_152_3 : FOK "KnowLocks" 152 3 0 := ⟨by decide, "KnowLocks$Quarter", Or.inl (lw_g (lw_at lw_m2 21 rfl) rfl), Or.inl rfl⟩
theorem fok_0_177_12 : FOK "KnowLocks" 177 12 2 := ⟨by decide, "KnowLocks$Hand", Or.inl (lw_g (lw_at lw_m4 182 rfl) rfl), Or.inl rfl⟩
theorem fok_0_177_13 : FOK "KnowLocks" 177 13 2 := ⟨by decide, "KnowLocks$Hand", Or.inl (lw_g (lw_at lw_m4 182 rfl) rfl), Or.inl rfl⟩
theorem fok_0_177_14 : FOK "KnowLocks" 177 14 2 := ⟨by decide, "KnowLocks$Hand", Or.inl (lw_g (lw_at lw_m4 182 rfl) rfl), Or.inl rfl⟩
theorem fok_0_177_15 : FOK "KnowLocks" 177 15 2 := ⟨by decide, "KnowLocks$Hand", Or.inl (lw_g (lw_at lw_m4 182 rfl) rfl), Or.inl rfl⟩
theorem fok_0_177_16 : FOK "KnowLocks" 177 16 2 := ⟨by decide, "KnowLocks$Hand", Or.inl (lw_g (lw_at lw_m4 182 rfl) rfl), Or.inl rfl⟩
theorem fok_0_183_12 : FOK "KnowLocks" 183 12 1 := ⟨by decide, "KnowLocks$Hand", Or.inl (lw_g (lw_at lw_m4 178 rfl) rfl), Or.inl rfl⟩
theorem fok_0_183_13 : FOK "KnowLocks" 183 13 1 := ⟨by decide, "KnowLocks$Hand", Or.inl (lw_g (lw_at lw_m4 178 rfl) rfl), Or.inl rfl⟩
theorem fok_0_183_14 : FOK "KnowLocks" 183 14 1 := ⟨by decide, "KnowLocks$Hand", Or.inl (lw_g (lw_at lw_m4 178 rfl) rfl), Or.inl rfl⟩
theorem fok_0_183_15 : FOK "KnowLocks" 183 15 1 := ⟨by decide, "KnowLocks$Hand", Or.inl (lw_g (lw_at lw_m4 178 rfl) rfl), Or.inl rfl⟩
theorem fok_0_183_16 : FOK "KnowLocks" 183 16 1 := ⟨by decide, "KnowLocks$Hand", Or.inl (lw_g (lw_at lw_m4 178 rfl) rfl), Or.inl rfl⟩
theorem fok_0_189_2 : FOK "KnowLocks" 189 2 3 := ⟨by decide, "KnowLocks$Night", Or.inl (lw_g (lw_at lw_m1 186 rfl) rfl), Or.inl rfl⟩
theorem fok_0_193_5 : FOK "KnowLocks" 193 5 0 := ⟨by decide, "KnowLocks$Lock", Or.inl (lw_g (lw_at lw_m2 166 rfl) rfl), Or.inl rfl⟩
theorem fok_0_202_5 : FOK "KnowLocks" 202 5 1 := ⟨by decide, "KnowLocks$Lock", Or.inl (lw_g (lw_at lw_m2 169 rfl) rfl), Or.inl rfl⟩
theorem fok_0_205_5 : FOK "KnowLocks" 205 5 2 := ⟨by decide, "KnowLocks$Lock", Or.inl (lw_g (lw_at lw_m2 171 rfl) rfl), Or.inl rfl⟩
theorem fok_0_208_5 : FOK "KnowLocks" 208 5 5 := ⟨by decide, "KnowLocks$Lock", Or.inl (lw_g (lw_at lw_m2 177 rfl) rfl), Or.inl rfl⟩
theorem fok_0_211_5 : FOK "KnowLocks" 211 5 6 := ⟨by decide, "KnowLocks$Lock", Or.inl (lw_g (lw_at lw_m2 179 rfl) rfl), Or.inl rfl⟩
theorem fok_0_214_5 : FOK "KnowLocks" 214 5 3 := ⟨by decide, "KnowLocks$Lock", Or.inl (lw_g (lw_at lw_m2 173 rfl) rfl), Or.inl rfl⟩
theorem fok_0_265_29 : FOK "KnowLocks" 265 29 0 := ⟨by decide, "KnowLocks$Behind", Or.inr ⟨"KnowLocks", nw_mem (lw_at lw_m7 165 rfl) rfl, by decide⟩, Or.inl rfl⟩
theorem fok_0_268_29 : FOK "KnowLocks" 268 29 1 := ⟨by decide, "KnowLocks$Behind", Or.inr ⟨"KnowLocks", nw_mem (lw_at lw_m7 167 rfl) rfl, by decide⟩, Or.inl rfl⟩
theorem fok_0_275_2 : FOK "KnowLocks" 275 2 1 := ⟨by decide, "KnowLocks$Night", Or.inl (lw_g (lw_at lw_m1 179 rfl) rfl), Or.inl rfl⟩
theorem fok_0_278_2 : FOK "KnowLocks" 278 2 2 := ⟨by decide, "KnowLocks$Night", Or.inl (lw_g (lw_at lw_m1 181 rfl) rfl), Or.inl rfl⟩
theorem fok_0_298_3 : FOK "KnowLocks" 298 3 6 := ⟨by decide, "KnowLocks$Quarter", Or.inl (lw_g (lw_at lw_m2 40 rfl) rfl), Or.inl rfl⟩
theorem fok_0_301_3 : FOK "KnowLocks" 301 3 7 := ⟨by decide, "KnowLocks$Quarter", Or.inl (lw_g (lw_at lw_m2 43 rfl) rfl), Or.inl rfl⟩
theorem fok_0_307_31 : FOK "KnowLocks" 307 31 0 := ⟨by decide, "KnowLocks$Breaks", Or.inl (lw_g (lw_at lw_m2 239 rfl) rfl), Or.inr (lw_g (lw_at lw_m2 236 rfl) rfl)⟩
theorem fok_0_307_32 : FOK "KnowLocks" 307 32 0 := ⟨by decide, "KnowLocks$Breaks", Or.inl (lw_g (lw_at lw_m2 239 rfl) rfl), Or.inr (lw_g (lw_at lw_m2 236 rfl) rfl)⟩
theorem fok_0_310_0 : FOK "KnowLocks" 310 0 5 := ⟨by decide, "KnowLocks", Or.inl (lw_g (lw_at lw_m3 85 rfl) rfl), Or.inl rfl⟩
theorem fok_0_313_0 : FOK "KnowLocks" 313 0 6 := ⟨by decide, "KnowLocks", Or.inl (lw_g (lw_at lw_m3 86 rfl) rfl), Or.inl rfl⟩
theorem fok_0_326_33 : FOK "KnowLocks" 326 33 3 := ⟨by decide, "KnowLocks$Errors", Or.inl (lw_g (lw_at lw_m3 29 rfl) rfl), Or.inl rfl⟩
theorem fok_0_329_33 : FOK "KnowLocks" 329 33 4 := ⟨by decide, "KnowLocks$Errors", Or.inl (lw_g (lw_at lw_m3 31 rfl) rfl), Or.inl rfl⟩
theorem fok_0_334_28 : FOK "KnowLocks" 334 28 0 := ⟨by decide, "KnowLocks$Tried", Or.inl (lw_g (lw_at lw_m6 70 rfl) rfl), Or.inl rfl⟩
theorem fok_0_340_28 : FOK "KnowLocks" 340 28 1 := ⟨by decide, "KnowLocks$Tried", Or.inl (lw_g (lw_at lw_m6 72 rfl) rfl), Or.inl rfl⟩
theorem fok_0_341_28 : FOK "KnowLocks" 341 28 2 := ⟨by decide, "KnowLocks$Tried", Or.inl (lw_g (lw_at lw_m6 74 rfl) rfl), Or.inl rfl⟩
theorem fok_0_368_31 : FOK "KnowLocks" 368 31 0 := ⟨by decide, "KnowLocks$Trained", Or.inl (lw_g (lw_at lw_m3 0 rfl) rfl), Or.inr (lw_g (lw_at lw_m2 238 rfl) rfl)⟩
theorem fok_0_368_32 : FOK "KnowLocks" 368 32 0 := ⟨by decide, "KnowLocks$Trained", Or.inl (lw_g (lw_at lw_m3 0 rfl) rfl), Or.inr (lw_g (lw_at lw_m2 238 rfl) rfl)⟩
theorem fok_0_381_0 : FOK "KnowLocks" 381 0 11 := ⟨by decide, "KnowLocks", Or.inl (lw_g (lw_at lw_m3 91 rfl) rfl), Or.inl rfl⟩
theorem fok_0_408_30 : FOK "KnowLocks" 408 30 0 := ⟨by decide, "KnowLocks$Mark", Or.inr ⟨"KnowLocks", nw_mem (lw_at lw_m9 34 rfl) rfl, by decide⟩, Or.inl rfl⟩
theorem fok_0_409_30 : FOK "KnowLocks" 409 30 1 := ⟨by decide, "KnowLocks$Mark", Or.inr ⟨"KnowLocks", nw_mem (lw_at lw_m9 36 rfl) rfl, by decide⟩, Or.inl rfl⟩
theorem fok_0_410_3 : FOK "KnowLocks" 410 3 4 := ⟨by decide, "KnowLocks$Quarter", Or.inl (lw_g (lw_at lw_m2 34 rfl) rfl), Or.inl rfl⟩
theorem fok_0_413_3 : FOK "KnowLocks" 413 3 5 := ⟨by decide, "KnowLocks$Quarter", Or.inl (lw_g (lw_at lw_m2 37 rfl) rfl), Or.inl rfl⟩
theorem fok_29_7_29 : FOK "KnowLocks$Behind" 7 29 0 := ⟨by decide, "KnowLocks$Behind", Or.inl (lw_g (lw_at lw_m7 164 rfl) rfl), Or.inl rfl⟩
theorem fok_29_13_29 : FOK "KnowLocks$Behind" 13 29 1 := ⟨by decide, "KnowLocks$Behind", Or.inl (lw_g (lw_at lw_m7 166 rfl) rfl), Or.inl rfl⟩
theorem fok_31_3_31 : FOK "KnowLocks$Breaks" 3 31 4 := ⟨by decide, "KnowLocks$Breaks", Or.inl (lw_g (lw_at lw_m2 233 rfl) rfl), Or.inl rfl⟩
theorem fok_31_15_31 : FOK "KnowLocks$Breaks" 15 31 3 := ⟨by decide, "KnowLocks$Breaks", Or.inl (lw_g (lw_at lw_m2 232 rfl) rfl), Or.inl rfl⟩
theorem fok_31_27_31 : FOK "KnowLocks$Breaks" 27 31 1 := ⟨by decide, "KnowLocks$Breaks", Or.inl (lw_g (lw_at lw_m3 4 rfl) rfl), Or.inr (lw_g (lw_at lw_m3 5 rfl) rfl)⟩
theorem fok_31_27_32 : FOK "KnowLocks$Breaks" 27 32 1 := ⟨by decide, "KnowLocks$Breaks", Or.inl (lw_g (lw_at lw_m3 4 rfl) rfl), Or.inr (lw_g (lw_at lw_m3 5 rfl) rfl)⟩
theorem fok_31_39_3 : FOK "KnowLocks$Breaks" 39 3 0 := ⟨by decide, "KnowLocks$Quarter", Or.inl (lw_g (lw_at lw_m2 17 rfl) rfl), Or.inl rfl⟩
theorem fok_31_53_12 : FOK "KnowLocks$Breaks" 53 12 2 := ⟨by decide, "KnowLocks$Hand", Or.inl (lw_g (lw_at lw_m4 181 rfl) rfl), Or.inl rfl⟩
theorem fok_31_53_13 : FOK "KnowLocks$Breaks" 53 13 2 := ⟨by decide, "KnowLocks$Hand", Or.inl (lw_g (lw_at lw_m4 181 rfl) rfl), Or.inl rfl⟩
theorem fok_31_53_14 : FOK "KnowLocks$Breaks" 53 14 2 := ⟨by decide, "KnowLocks$Hand", Or.inl (lw_g (lw_at lw_m4 181 rfl) rfl), Or.inl rfl⟩
theorem fok_31_53_15 : FOK "KnowLocks$Breaks" 53 15 2 := ⟨by decide, "KnowLocks$Hand", Or.inl (lw_g (lw_at lw_m4 181 rfl) rfl), Or.inl rfl⟩
theorem fok_31_53_16 : FOK "KnowLocks$Breaks" 53 16 2 := ⟨by decide, "KnowLocks$Hand", Or.inl (lw_g (lw_at lw_m4 181 rfl) rfl), Or.inl rfl⟩
theorem fok_31_56_31 : FOK "KnowLocks$Breaks" 56 31 0 := ⟨by decide, "KnowLocks$Breaks", Or.inl (lw_g (lw_at lw_m2 235 rfl) rfl), Or.inr (lw_g (lw_at lw_m2 236 rfl) rfl)⟩
theorem fok_31_56_32 : FOK "KnowLocks$Breaks" 56 32 0 := ⟨by decide, "KnowLocks$Breaks", Or.inl (lw_g (lw_at lw_m2 235 rfl) rfl), Or.inr (lw_g (lw_at lw_m2 236 rfl) rfl)⟩
theorem fok_20_12_20 : FOK "KnowLocks$Chain" 12 20 1 := ⟨by decide, "KnowLocks$Chain", Or.inl (lw_g (lw_at lw_m5 211 rfl) rfl), Or.inl rfl⟩
theorem fok_20_18_20 : FOK "KnowLocks$Chain" 18 20 0 := ⟨by decide, "KnowLocks$Chain", Or.inl (lw_g (lw_at lw_m5 210 rfl) rfl), Or.inl rfl⟩
theorem fok_10_9_10 : FOK "KnowLocks$Counts" 9 10 0 := ⟨by decide, "KnowLocks$Counts", Or.inl (lw_g (lw_at lw_m2 117 rfl) rfl), Or.inl rfl⟩
theorem fok_43_3_31 : FOK "KnowLocks$Deep" 3 31 2 := ⟨by decide, "KnowLocks$Deep", Or.inl (lw_g (lw_at lw_m3 6 rfl) rfl), Or.inl rfl⟩
theorem fok_43_3_32 : FOK "KnowLocks$Deep" 3 32 2 := ⟨by decide, "KnowLocks$Deep", Or.inl (lw_g (lw_at lw_m3 6 rfl) rfl), Or.inl rfl⟩
theorem fok_43_15_31 : FOK "KnowLocks$Deep" 15 31 0 := ⟨by decide, "KnowLocks$Deep", Or.inl (lw_g (lw_at lw_m2 234 rfl) rfl), Or.inl rfl⟩
theorem fok_43_15_32 : FOK "KnowLocks$Deep" 15 32 0 := ⟨by decide, "KnowLocks$Deep", Or.inl (lw_g (lw_at lw_m2 234 rfl) rfl), Or.inl rfl⟩
theorem fok_43_21_31 : FOK "KnowLocks$Deep" 21 31 1 := ⟨by decide, "KnowLocks$Deep", Or.inl (lw_g (lw_at lw_m3 1 rfl) rfl), Or.inl rfl⟩
theorem fok_43_21_32 : FOK "KnowLocks$Deep" 21 32 1 := ⟨by decide, "KnowLocks$Deep", Or.inl (lw_g (lw_at lw_m3 1 rfl) rfl), Or.inl rfl⟩
theorem fok_43_25_0 : FOK "KnowLocks$Deep" 25 0 1 := ⟨by decide, "KnowLocks", Or.inr ⟨"KnowLocks", nw_mem (lw_at lw_m3 80 rfl) rfl, by decide⟩, Or.inl rfl⟩
theorem fok_43_29_2 : FOK "KnowLocks$Deep" 29 2 3 := ⟨by decide, "KnowLocks$Night", Or.inl (lw_g (lw_at lw_m1 185 rfl) rfl), Or.inl rfl⟩
theorem fok_33_3_33 : FOK "KnowLocks$Errors" 3 33 5 := ⟨by decide, "KnowLocks$Errors", Or.inl (lw_g (lw_at lw_m3 32 rfl) rfl), Or.inl rfl⟩
theorem fok_33_17_33 : FOK "KnowLocks$Errors" 17 33 0 := ⟨by decide, "KnowLocks$Errors", Or.inl (lw_g (lw_at lw_m3 25 rfl) rfl), Or.inl rfl⟩
theorem fok_33_20_33 : FOK "KnowLocks$Errors" 20 33 1 := ⟨by decide, "KnowLocks$Errors", Or.inl (lw_g (lw_at lw_m3 26 rfl) rfl), Or.inl rfl⟩
theorem fok_33_24_0 : FOK "KnowLocks$Errors" 24 0 1 := ⟨by decide, "KnowLocks", Or.inr ⟨"KnowLocks", nw_mem (lw_at lw_m3 78 rfl) rfl, by decide⟩, Or.inl rfl⟩
theorem fok_33_28_2 : FOK "KnowLocks$Errors" 28 2 3 := ⟨by decide, "KnowLocks$Night", Or.inl (lw_g (lw_at lw_m1 183 rfl) rfl), Or.inl rfl⟩
theorem fok_33_34_33 : FOK "KnowLocks$Errors" 34 33 2 := ⟨by decide, "KnowLocks$Errors", Or.inl (lw_g (lw_at lw_m3 27 rfl) rfl), Or.inl rfl⟩
theorem fok_33_42_33 : FOK "KnowLocks$Errors" 42 33 4 := ⟨by decide, "KnowLocks$Errors", Or.inl (lw_g (lw_at lw_m3 30 rfl) rfl), Or.inl rfl⟩
theorem fok_33_47_33 : FOK "KnowLocks$Errors" 47 33 3 := ⟨by decide, "KnowLocks$Errors", Or.inl (lw_g (lw_at lw_m3 28 rfl) rfl), Or.inl rfl⟩
theorem fok_33_58_5 : FOK "KnowLocks$Errors" 58 5 0 := ⟨by decide, "KnowLocks$Lock", Or.inl (lw_g (lw_at lw_m2 164 rfl) rfl), Or.inl rfl⟩
theorem fok_33_84_3 : FOK "KnowLocks$Errors" 84 3 0 := ⟨by decide, "KnowLocks$Quarter", Or.inl (lw_g (lw_at lw_m2 20 rfl) rfl), Or.inl rfl⟩
theorem fok_33_101_5 : FOK "KnowLocks$Errors" 101 5 4 := ⟨by decide, "KnowLocks$Lock", Or.inl (lw_g (lw_at lw_m2 175 rfl) rfl), Or.inl rfl⟩
theorem fok_18_7_18 : FOK "KnowLocks$Fact" 7 18 0 := ⟨by decide, "KnowLocks$Fact", Or.inl (lw_g (lw_at lw_m5 167 rfl) rfl), Or.inl rfl⟩
theorem fok_18_13_4 : FOK "KnowLocks$Fact" 13 4 0 := ⟨by decide, "KnowLocks$Facts", Or.inl (lw_g (lw_at lw_m2 10 rfl) rfl), Or.inl rfl⟩
theorem fok_4_9_4 : FOK "KnowLocks$Facts" 9 4 0 := ⟨by decide, "KnowLocks$Facts", Or.inl (lw_g (lw_at lw_m2 9 rfl) rfl), Or.inl rfl⟩
theorem fok_34_3_34 : FOK "KnowLocks$Game" 3 34 2 := ⟨by decide, "KnowLocks$Game", Or.inl (lw_g (lw_at lw_m3 67 rfl) rfl), Or.inl rfl⟩
theorem fok_34_15_34 : FOK "KnowLocks$Game" 15 34 0 := ⟨by decide, "KnowLocks$Game", Or.inl (lw_g (lw_at lw_m3 65 rfl) rfl), Or.inl rfl⟩
theorem fok_34_19_34 : FOK "KnowLocks$Game" 19 34 1 := ⟨by decide, "KnowLocks$Game", Or.inl (lw_g (lw_at lw_m3 66 rfl) rfl), Or.inl rfl⟩
theorem fok_34_22_0 : FOK "KnowLocks$Game" 22 0 1 := ⟨by decide, "KnowLocks", Or.inr ⟨"KnowLocks", nw_mem (lw_at lw_m3 79 rfl) rfl, by decide⟩, Or.inl rfl⟩
theorem fok_34_26_2 : FOK "KnowLocks$Game" 26 2 3 := ⟨by decide, "KnowLocks$Night", Or.inl (lw_g (lw_at lw_m1 184 rfl) rfl), Or.inl rfl⟩
theorem fok_34_38_5 : FOK "KnowLocks$Game" 38 5 1 := ⟨by decide, "KnowLocks$Lock", Or.inl (lw_g (lw_at lw_m2 168 rfl) rfl), Or.inl rfl⟩
theorem fok_34_46_3 : FOK "KnowLocks$Game" 46 3 0 := ⟨by decide, "KnowLocks$Quarter", Or.inl (lw_g (lw_at lw_m2 16 rfl) rfl), Or.inl rfl⟩
theorem fok_12_7_12 : FOK "KnowLocks$Hand" 7 12 0 := ⟨by decide, "KnowLocks$Hand", Or.inl (lw_g (lw_at lw_m4 174 rfl) rfl), Or.inl rfl⟩
theorem fok_12_7_13 : FOK "KnowLocks$Hand" 7 13 0 := ⟨by decide, "KnowLocks$Hand", Or.inl (lw_g (lw_at lw_m4 174 rfl) rfl), Or.inl rfl⟩
theorem fok_12_7_14 : FOK "KnowLocks$Hand" 7 14 0 := ⟨by decide, "KnowLocks$Hand", Or.inl (lw_g (lw_at lw_m4 174 rfl) rfl), Or.inl rfl⟩
theorem fok_12_7_15 : FOK "KnowLocks$Hand" 7 15 0 := ⟨by decide, "KnowLocks$Hand", Or.inl (lw_g (lw_at lw_m4 174 rfl) rfl), Or.inl rfl⟩
theorem fok_12_7_16 : FOK "KnowLocks$Hand" 7 16 0 := ⟨by decide, "KnowLocks$Hand", Or.inl (lw_g (lw_at lw_m4 174 rfl) rfl), Or.inl rfl⟩
theorem fok_12_13_12 : FOK "KnowLocks$Hand" 13 12 1 := ⟨by decide, "KnowLocks$Hand", Or.inl (lw_g (lw_at lw_m4 176 rfl) rfl), Or.inl rfl⟩
theorem fok_12_13_13 : FOK "KnowLocks$Hand" 13 13 1 := ⟨by decide, "KnowLocks$Hand", Or.inl (lw_g (lw_at lw_m4 176 rfl) rfl), Or.inl rfl⟩
theorem fok_12_13_14 : FOK "KnowLocks$Hand" 13 14 1 := ⟨by decide, "KnowLocks$Hand", Or.inl (lw_g (lw_at lw_m4 176 rfl) rfl), Or.inl rfl⟩
theorem fok_12_13_15 : FOK "KnowLocks$Hand" 13 15 1 := ⟨by decide, "KnowLocks$Hand", Or.inl (lw_g (lw_at lw_m4 176 rfl) rfl), Or.inl rfl⟩
theorem fok_12_13_16 : FOK "KnowLocks$Hand" 13 16 1 := ⟨by decide, "KnowLocks$Hand", Or.inl (lw_g (lw_at lw_m4 176 rfl) rfl), Or.inl rfl⟩
theorem fok_12_17_12 : FOK "KnowLocks$Hand" 17 12 2 := ⟨by decide, "KnowLocks$Hand", Or.inl (lw_g (lw_at lw_m4 180 rfl) rfl), Or.inl rfl⟩
theorem fok_12_17_13 : FOK "KnowLocks$Hand" 17 13 2 := ⟨by decide, "KnowLocks$Hand", Or.inl (lw_g (lw_at lw_m4 180 rfl) rfl), Or.inl rfl⟩
theorem fok_12_17_14 : FOK "KnowLocks$Hand" 17 14 2 := ⟨by decide, "KnowLocks$Hand", Or.inl (lw_g (lw_at lw_m4 180 rfl) rfl), Or.inl rfl⟩
theorem fok_12_17_15 : FOK "KnowLocks$Hand" 17 15 2 := ⟨by decide, "KnowLocks$Hand", Or.inl (lw_g (lw_at lw_m4 180 rfl) rfl), Or.inl rfl⟩
theorem fok_12_17_16 : FOK "KnowLocks$Hand" 17 16 2 := ⟨by decide, "KnowLocks$Hand", Or.inl (lw_g (lw_at lw_m4 180 rfl) rfl), Or.inl rfl⟩
theorem fok_12_21_12 : FOK "KnowLocks$Hand" 21 12 3 := ⟨by decide, "KnowLocks$Hand", Or.inl (lw_g (lw_at lw_m4 183 rfl) rfl), Or.inl rfl⟩
theorem fok_12_21_13 : FOK "KnowLocks$Hand" 21 13 3 := ⟨by decide, "KnowLocks$Hand", Or.inl (lw_g (lw_at lw_m4 183 rfl) rfl), Or.inl rfl⟩
theorem fok_12_21_14 : FOK "KnowLocks$Hand" 21 14 3 := ⟨by decide, "KnowLocks$Hand", Or.inl (lw_g (lw_at lw_m4 183 rfl) rfl), Or.inl rfl⟩
theorem fok_12_21_15 : FOK "KnowLocks$Hand" 21 15 3 := ⟨by decide, "KnowLocks$Hand", Or.inl (lw_g (lw_at lw_m4 183 rfl) rfl), Or.inl rfl⟩
theorem fok_12_21_16 : FOK "KnowLocks$Hand" 21 16 3 := ⟨by decide, "KnowLocks$Hand", Or.inl (lw_g (lw_at lw_m4 183 rfl) rfl), Or.inl rfl⟩
theorem fok_40_7_21 : FOK "KnowLocks$Link" 7 21 0 := ⟨by decide, "KnowLocks$Link", Or.inl (lw_g (lw_at lw_m5 227 rfl) rfl), Or.inl rfl⟩
theorem fok_40_7_22 : FOK "KnowLocks$Link" 7 22 0 := ⟨by decide, "KnowLocks$Link", Or.inl (lw_g (lw_at lw_m5 227 rfl) rfl), Or.inl rfl⟩
theorem fok_40_7_23 : FOK "KnowLocks$Link" 7 23 0 := ⟨by decide, "KnowLocks$Link", Or.inl (lw_g (lw_at lw_m5 227 rfl) rfl), Or.inl rfl⟩
theorem fok_40_7_24 : FOK "KnowLocks$Link" 7 24 0 := ⟨by decide, "KnowLocks$Link", Or.inl (lw_g (lw_at lw_m5 227 rfl) rfl), Or.inl rfl⟩
theorem fok_40_7_25 : FOK "KnowLocks$Link" 7 25 0 := ⟨by decide, "KnowLocks$Link", Or.inl (lw_g (lw_at lw_m5 227 rfl) rfl), Or.inl rfl⟩
theorem fok_40_7_26 : FOK "KnowLocks$Link" 7 26 0 := ⟨by decide, "KnowLocks$Link", Or.inl (lw_g (lw_at lw_m5 227 rfl) rfl), Or.inl rfl⟩
theorem fok_40_7_27 : FOK "KnowLocks$Link" 7 27 0 := ⟨by decide, "KnowLocks$Link", Or.inl (lw_g (lw_at lw_m5 227 rfl) rfl), Or.inl rfl⟩
theorem fok_5_7_5 : FOK "KnowLocks$Lock" 7 5 0 := ⟨by decide, "KnowLocks$Lock", Or.inl (lw_g (lw_at lw_m2 163 rfl) rfl), Or.inl rfl⟩
theorem fok_5_13_5 : FOK "KnowLocks$Lock" 13 5 1 := ⟨by decide, "KnowLocks$Lock", Or.inl (lw_g (lw_at lw_m2 167 rfl) rfl), Or.inl rfl⟩
theorem fok_5_22_5 : FOK "KnowLocks$Lock" 22 5 2 := ⟨by decide, "KnowLocks$Lock", Or.inl (lw_g (lw_at lw_m2 170 rfl) rfl), Or.inl rfl⟩
theorem fok_5_25_5 : FOK "KnowLocks$Lock" 25 5 3 := ⟨by decide, "KnowLocks$Lock", Or.inl (lw_g (lw_at lw_m2 172 rfl) rfl), Or.inl rfl⟩
theorem fok_5_28_5 : FOK "KnowLocks$Lock" 28 5 4 := ⟨by decide, "KnowLocks$Lock", Or.inl (lw_g (lw_at lw_m2 174 rfl) rfl), Or.inl rfl⟩
theorem fok_5_32_5 : FOK "KnowLocks$Lock" 32 5 5 := ⟨by decide, "KnowLocks$Lock", Or.inl (lw_g (lw_at lw_m2 176 rfl) rfl), Or.inl rfl⟩
theorem fok_5_35_5 : FOK "KnowLocks$Lock" 35 5 6 := ⟨by decide, "KnowLocks$Lock", Or.inl (lw_g (lw_at lw_m2 178 rfl) rfl), Or.inl rfl⟩
theorem fok_30_7_30 : FOK "KnowLocks$Mark" 7 30 0 := ⟨by decide, "KnowLocks$Mark", Or.inl (lw_g (lw_at lw_m9 33 rfl) rfl), Or.inl rfl⟩
theorem fok_30_13_30 : FOK "KnowLocks$Mark" 13 30 1 := ⟨by decide, "KnowLocks$Mark", Or.inl (lw_g (lw_at lw_m9 35 rfl) rfl), Or.inl rfl⟩
theorem fok_6_9_6 : FOK "KnowLocks$Mean" 9 6 0 := ⟨by decide, "KnowLocks$Mean", Or.inl (lw_g (lw_at lw_m2 130 rfl) rfl), Or.inl rfl⟩
theorem fok_6_9_7 : FOK "KnowLocks$Mean" 9 7 0 := ⟨by decide, "KnowLocks$Mean", Or.inl (lw_g (lw_at lw_m2 130 rfl) rfl), Or.inl rfl⟩
theorem fok_6_9_8 : FOK "KnowLocks$Mean" 9 8 0 := ⟨by decide, "KnowLocks$Mean", Or.inl (lw_g (lw_at lw_m2 130 rfl) rfl), Or.inl rfl⟩
theorem fok_6_15_6 : FOK "KnowLocks$Mean" 15 6 1 := ⟨by decide, "KnowLocks$Mean", Or.inl (lw_g (lw_at lw_m2 131 rfl) rfl), Or.inl rfl⟩
theorem fok_6_15_7 : FOK "KnowLocks$Mean" 15 7 1 := ⟨by decide, "KnowLocks$Mean", Or.inl (lw_g (lw_at lw_m2 131 rfl) rfl), Or.inl rfl⟩
theorem fok_6_15_8 : FOK "KnowLocks$Mean" 15 8 1 := ⟨by decide, "KnowLocks$Mean", Or.inl (lw_g (lw_at lw_m2 131 rfl) rfl), Or.inl rfl⟩
theorem fok_9_9_9 : FOK "KnowLocks$Nearest" 9 9 0 := ⟨by decide, "KnowLocks$Nearest", Or.inl (lw_g (lw_at lw_m2 104 rfl) rfl), Or.inl rfl⟩
theorem fok_9_15_9 : FOK "KnowLocks$Nearest" 15 9 1 := ⟨by decide, "KnowLocks$Nearest", Or.inl (lw_g (lw_at lw_m2 105 rfl) rfl), Or.inl rfl⟩
theorem fok_2_11_2 : FOK "KnowLocks$Night" 11 2 3 := ⟨by decide, "KnowLocks$Night", Or.inl (lw_g (lw_at lw_m1 182 rfl) rfl), Or.inl rfl⟩
theorem fok_2_17_2 : FOK "KnowLocks$Night" 17 2 4 := ⟨by decide, "KnowLocks$Night", Or.inl (lw_g (lw_at lw_m1 187 rfl) rfl), Or.inl rfl⟩
theorem fok_2_20_2 : FOK "KnowLocks$Night" 20 2 5 := ⟨by decide, "KnowLocks$Night", Or.inl (lw_g (lw_at lw_m1 188 rfl) rfl), Or.inl rfl⟩
theorem fok_2_26_2 : FOK "KnowLocks$Night" 26 2 6 := ⟨by decide, "KnowLocks$Night", Or.inl (lw_g (lw_at lw_m1 189 rfl) rfl), Or.inl rfl⟩
theorem fok_2_29_2 : FOK "KnowLocks$Night" 29 2 7 := ⟨by decide, "KnowLocks$Night", Or.inl (lw_g (lw_at lw_m1 190 rfl) rfl), Or.inl rfl⟩
theorem fok_2_33_2 : FOK "KnowLocks$Night" 33 2 0 := ⟨by decide, "KnowLocks$Night", Or.inl (lw_g (lw_at lw_m1 176 rfl) rfl), Or.inl rfl⟩
theorem fok_2_37_2 : FOK "KnowLocks$Night" 37 2 1 := ⟨by decide, "KnowLocks$Night", Or.inl (lw_g (lw_at lw_m1 178 rfl) rfl), Or.inl rfl⟩
theorem fok_2_41_2 : FOK "KnowLocks$Night" 41 2 2 := ⟨by decide, "KnowLocks$Night", Or.inl (lw_g (lw_at lw_m1 180 rfl) rfl), Or.inl rfl⟩
theorem fok_2_50_3 : FOK "KnowLocks$Night" 50 3 2 := ⟨by decide, "KnowLocks$Quarter", Or.inl (lw_g (lw_at lw_m2 26 rfl) rfl), Or.inl rfl⟩
theorem fok_2_53_3 : FOK "KnowLocks$Night" 53 3 3 := ⟨by decide, "KnowLocks$Quarter", Or.inl (lw_g (lw_at lw_m2 29 rfl) rfl), Or.inl rfl⟩
theorem fok_2_76_3 : FOK "KnowLocks$Night" 76 3 0 := ⟨by decide, "KnowLocks$Quarter", Or.inl (lw_g (lw_at lw_m2 19 rfl) rfl), Or.inl rfl⟩
theorem fok_2_92_12 : FOK "KnowLocks$Night" 92 12 1 := ⟨by decide, "KnowLocks$Hand", Or.inl (lw_g (lw_at lw_m4 177 rfl) rfl), Or.inl rfl⟩
theorem fok_2_92_13 : FOK "KnowLocks$Night" 92 13 1 := ⟨by decide, "KnowLocks$Hand", Or.inl (lw_g (lw_at lw_m4 177 rfl) rfl), Or.inl rfl⟩
theorem fok_2_92_14 : FOK "KnowLocks$Night" 92 14 1 := ⟨by decide, "KnowLocks$Hand", Or.inl (lw_g (lw_at lw_m4 177 rfl) rfl), Or.inl rfl⟩
theorem fok_2_92_15 : FOK "KnowLocks$Night" 92 15 1 := ⟨by decide, "KnowLocks$Hand", Or.inl (lw_g (lw_at lw_m4 177 rfl) rfl), Or.inl rfl⟩
theorem fok_2_92_16 : FOK "KnowLocks$Night" 92 16 1 := ⟨by decide, "KnowLocks$Hand", Or.inl (lw_g (lw_at lw_m4 177 rfl) rfl), Or.inl rfl⟩
theorem fok_2_118_5 : FOK "KnowLocks$Night" 118 5 0 := ⟨by decide, "KnowLocks$Lock", Or.inl (lw_g (lw_at lw_m2 165 rfl) rfl), Or.inl rfl⟩
theorem fok_2_126_3 : FOK "KnowLocks$Night" 126 3 4 := ⟨by decide, "KnowLocks$Quarter", Or.inl (lw_g (lw_at lw_m2 32 rfl) rfl), Or.inl rfl⟩
theorem fok_2_133_3 : FOK "KnowLocks$Night" 133 3 5 := ⟨by decide, "KnowLocks$Quarter", Or.inl (lw_g (lw_at lw_m2 35 rfl) rfl), Or.inl rfl⟩
theorem fok_19_7_19 : FOK "KnowLocks$Not" 7 19 0 := ⟨by decide, "KnowLocks$Not", Or.inl (lw_g (lw_at lw_m5 187 rfl) rfl), Or.inl rfl⟩
theorem fok_17_7_17 : FOK "KnowLocks$Plain" 7 17 0 := ⟨by decide, "KnowLocks$Plain", Or.inl (lw_g (lw_at lw_m5 177 rfl) rfl), Or.inl rfl⟩
theorem fok_3_14_3 : FOK "KnowLocks$Quarter" 14 3 0 := ⟨by decide, "KnowLocks$Quarter", Or.inl (lw_g (lw_at lw_m2 15 rfl) rfl), Or.inl rfl⟩
theorem fok_3_20_3 : FOK "KnowLocks$Quarter" 20 3 1 := ⟨by decide, "KnowLocks$Quarter", Or.inl (lw_g (lw_at lw_m2 23 rfl) rfl), Or.inl rfl⟩
theorem fok_3_23_3 : FOK "KnowLocks$Quarter" 23 3 2 := ⟨by decide, "KnowLocks$Quarter", Or.inl (lw_g (lw_at lw_m2 25 rfl) rfl), Or.inl rfl⟩
theorem fok_3_27_3 : FOK "KnowLocks$Quarter" 27 3 3 := ⟨by decide, "KnowLocks$Quarter", Or.inl (lw_g (lw_at lw_m2 28 rfl) rfl), Or.inl rfl⟩
theorem fok_3_30_3 : FOK "KnowLocks$Quarter" 30 3 4 := ⟨by decide, "KnowLocks$Quarter", Or.inl (lw_g (lw_at lw_m2 31 rfl) rfl), Or.inl rfl⟩
theorem fok_3_33_3 : FOK "KnowLocks$Quarter" 33 3 6 := ⟨by decide, "KnowLocks$Quarter", Or.inl (lw_g (lw_at lw_m2 38 rfl) rfl), Or.inl rfl⟩
theorem fok_3_37_3 : FOK "KnowLocks$Quarter" 37 3 7 := ⟨by decide, "KnowLocks$Quarter", Or.inl (lw_g (lw_at lw_m2 41 rfl) rfl), Or.inl rfl⟩
theorem fok_3_43_3 : FOK "KnowLocks$Quarter" 43 3 11 := ⟨by decide, "KnowLocks$Quarter", Or.inl (lw_g (lw_at lw_m2 49 rfl) rfl), Or.inl rfl⟩
theorem fok_3_57_12 : FOK "KnowLocks$Quarter" 57 12 0 := ⟨by decide, "KnowLocks$Hand", Or.inl (lw_g (lw_at lw_m4 175 rfl) rfl), Or.inl rfl⟩
theorem fok_3_57_13 : FOK "KnowLocks$Quarter" 57 13 0 := ⟨by decide, "KnowLocks$Hand", Or.inl (lw_g (lw_at lw_m4 175 rfl) rfl), Or.inl rfl⟩
theorem fok_3_57_14 : FOK "KnowLocks$Quarter" 57 14 0 := ⟨by decide, "KnowLocks$Hand", Or.inl (lw_g (lw_at lw_m4 175 rfl) rfl), Or.inl rfl⟩
theorem fok_3_57_15 : FOK "KnowLocks$Quarter" 57 15 0 := ⟨by decide, "KnowLocks$Hand", Or.inl (lw_g (lw_at lw_m4 175 rfl) rfl), Or.inl rfl⟩
theorem fok_3_57_16 : FOK "KnowLocks$Quarter" 57 16 0 := ⟨by decide, "KnowLocks$Hand", Or.inl (lw_g (lw_at lw_m4 175 rfl) rfl), Or.inl rfl⟩
theorem fok_3_67_3 : FOK "KnowLocks$Quarter" 67 3 10 := ⟨by decide, "KnowLocks$Quarter", Or.inl (lw_g (lw_at lw_m2 47 rfl) rfl), Or.inl rfl⟩
theorem fok_3_75_4 : FOK "KnowLocks$Quarter" 75 4 0 := ⟨by decide, "KnowLocks$Facts", Or.inl (lw_g (lw_at lw_m2 11 rfl) rfl), Or.inl rfl⟩
theorem fok_3_87_3 : FOK "KnowLocks$Quarter" 87 3 9 := ⟨by decide, "KnowLocks$Quarter", Or.inl (lw_g (lw_at lw_m2 45 rfl) rfl), Or.inl rfl⟩
theorem fok_1_23_1 : FOK "KnowLocks$Reader" 23 1 0 := ⟨by decide, "KnowLocks$Reader", Or.inl (lw_g (lw_at lw_m1 113 rfl) rfl), Or.inl rfl⟩
theorem fok_1_33_1 : FOK "KnowLocks$Reader" 33 1 1 := ⟨by decide, "KnowLocks$Reader", Or.inl (lw_g (lw_at lw_m1 114 rfl) rfl), Or.inl rfl⟩
theorem fok_1_46_1 : FOK "KnowLocks$Reader" 46 1 2 := ⟨by decide, "KnowLocks$Reader", Or.inl (lw_g (lw_at lw_m1 115 rfl) rfl), Or.inl rfl⟩
theorem fok_1_61_1 : FOK "KnowLocks$Reader" 61 1 3 := ⟨by decide, "KnowLocks$Reader", Or.inl (lw_g (lw_at lw_m1 116 rfl) rfl), Or.inl rfl⟩
theorem fok_1_92_1 : FOK "KnowLocks$Reader" 92 1 4 := ⟨by decide, "KnowLocks$Reader", Or.inl (lw_g (lw_at lw_m1 117 rfl) rfl), Or.inl rfl⟩
theorem fok_1_97_1 : FOK "KnowLocks$Reader" 97 1 5 := ⟨by decide, "KnowLocks$Reader", Or.inl (lw_g (lw_at lw_m1 118 rfl) rfl), Or.inl rfl⟩
theorem fok_1_100_1 : FOK "KnowLocks$Reader" 100 1 8 := ⟨by decide, "KnowLocks$Reader", Or.inl (lw_g (lw_at lw_m1 121 rfl) rfl), Or.inl rfl⟩
theorem fok_1_103_1 : FOK "KnowLocks$Reader" 103 1 9 := ⟨by decide, "KnowLocks$Reader", Or.inl (lw_g (lw_at lw_m1 122 rfl) rfl), Or.inl rfl⟩
theorem fok_1_107_1 : FOK "KnowLocks$Reader" 107 1 11 := ⟨by decide, "KnowLocks$Reader", Or.inl (lw_g (lw_at lw_m1 125 rfl) rfl), Or.inl rfl⟩
theorem fok_1_110_1 : FOK "KnowLocks$Reader" 110 1 12 := ⟨by decide, "KnowLocks$Reader", Or.inl (lw_g (lw_at lw_m1 126 rfl) rfl), Or.inl rfl⟩
theorem fok_1_114_1 : FOK "KnowLocks$Reader" 114 1 13 := ⟨by decide, "KnowLocks$Reader", Or.inl (lw_g (lw_at lw_m1 127 rfl) rfl), Or.inl rfl⟩
theorem fok_1_123_1 : FOK "KnowLocks$Reader" 123 1 10 := ⟨by decide, "KnowLocks$Reader", Or.inl (lw_g (lw_at lw_m1 123 rfl) rfl), Or.inl rfl⟩
theorem fok_1_156_1 : FOK "KnowLocks$Reader" 156 1 14 := ⟨by decide, "KnowLocks$Reader", Or.inl (lw_g (lw_at lw_m1 128 rfl) rfl), Or.inl rfl⟩
theorem fok_1_191_1 : FOK "KnowLocks$Reader" 191 1 6 := ⟨by decide, "KnowLocks$Reader", Or.inl (lw_g (lw_at lw_m1 119 rfl) rfl), Or.inl rfl⟩
theorem fok_1_195_1 : FOK "KnowLocks$Reader" 195 1 7 := ⟨by decide, "KnowLocks$Reader", Or.inl (lw_g (lw_at lw_m1 120 rfl) rfl), Or.inl rfl⟩
theorem fok_1_235_3 : FOK "KnowLocks$Reader" 235 3 0 := ⟨by decide, "KnowLocks$Quarter", Or.inl (lw_g (lw_at lw_m2 22 rfl) rfl), Or.inl rfl⟩
theorem fok_1_258_12 : FOK "KnowLocks$Reader" 258 12 1 := ⟨by decide, "KnowLocks$Hand", Or.inl (lw_g (lw_at lw_m4 179 rfl) rfl), Or.inl rfl⟩
theorem fok_1_258_13 : FOK "KnowLocks$Reader" 258 13 1 := ⟨by decide, "KnowLocks$Hand", Or.inl (lw_g (lw_at lw_m4 179 rfl) rfl), Or.inl rfl⟩
theorem fok_1_258_14 : FOK "KnowLocks$Reader" 258 14 1 := ⟨by decide, "KnowLocks$Hand", Or.inl (lw_g (lw_at lw_m4 179 rfl) rfl), Or.inl rfl⟩
theorem fok_1_258_15 : FOK "KnowLocks$Reader" 258 15 1 := ⟨by decide, "KnowLocks$Hand", Or.inl (lw_g (lw_at lw_m4 179 rfl) rfl), Or.inl rfl⟩
theorem fok_1_258_16 : FOK "KnowLocks$Reader" 258 16 1 := ⟨by decide, "KnowLocks$Hand", Or.inl (lw_g (lw_at lw_m4 179 rfl) rfl), Or.inl rfl⟩
theorem fok_1_273_3 : FOK "KnowLocks$Reader" 273 3 2 := ⟨by decide, "KnowLocks$Quarter", Or.inl (lw_g (lw_at lw_m2 27 rfl) rfl), Or.inl rfl⟩
theorem fok_1_276_3 : FOK "KnowLocks$Reader" 276 3 3 := ⟨by decide, "KnowLocks$Quarter", Or.inl (lw_g (lw_at lw_m2 30 rfl) rfl), Or.inl rfl⟩
theorem fok_1_278_3 : FOK "KnowLocks$Reader" 278 3 1 := ⟨by decide, "KnowLocks$Quarter", Or.inl (lw_g (lw_at lw_m2 24 rfl) rfl), Or.inl rfl⟩
theorem fok_1_290_3 : FOK "KnowLocks$Reader" 290 3 4 := ⟨by decide, "KnowLocks$Quarter", Or.inl (lw_g (lw_at lw_m2 33 rfl) rfl), Or.inl rfl⟩
theorem fok_1_294_3 : FOK "KnowLocks$Reader" 294 3 5 := ⟨by decide, "KnowLocks$Quarter", Or.inl (lw_g (lw_at lw_m2 36 rfl) rfl), Or.inl rfl⟩
theorem fok_1_296_3 : FOK "KnowLocks$Reader" 296 3 8 := ⟨by decide, "KnowLocks$Quarter", Or.inl (lw_g (lw_at lw_m2 44 rfl) rfl), Or.inl rfl⟩
theorem fok_1_299_3 : FOK "KnowLocks$Reader" 299 3 6 := ⟨by decide, "KnowLocks$Quarter", Or.inl (lw_g (lw_at lw_m2 39 rfl) rfl), Or.inl rfl⟩
theorem fok_1_302_3 : FOK "KnowLocks$Reader" 302 3 7 := ⟨by decide, "KnowLocks$Quarter", Or.inl (lw_g (lw_at lw_m2 42 rfl) rfl), Or.inl rfl⟩
theorem fok_1_309_3 : FOK "KnowLocks$Reader" 309 3 9 := ⟨by decide, "KnowLocks$Quarter", Or.inl (lw_g (lw_at lw_m2 46 rfl) rfl), Or.inl rfl⟩
theorem fok_1_316_3 : FOK "KnowLocks$Reader" 316 3 10 := ⟨by decide, "KnowLocks$Quarter", Or.inl (lw_g (lw_at lw_m2 48 rfl) rfl), Or.inl rfl⟩
theorem fok_1_335_1 : FOK "KnowLocks$Reader" 335 1 15 := ⟨by decide, "KnowLocks$Reader", Or.inl (lw_g (lw_at lw_m1 129 rfl) rfl), Or.inl rfl⟩
theorem fok_1_353_20 : FOK "KnowLocks$Reader" 353 20 1 := ⟨by decide, "KnowLocks$Chain", Or.inl (lw_g (lw_at lw_m5 212 rfl) rfl), Or.inl rfl⟩
theorem fok_32_3_32 : FOK "KnowLocks$Trained" 3 32 3 := ⟨by decide, "KnowLocks$Trained", Or.inl (lw_g (lw_at lw_m3 52 rfl) rfl), Or.inl rfl⟩
theorem fok_32_23_31 : FOK "KnowLocks$Trained" 23 31 1 := ⟨by decide, "KnowLocks$Trained", Or.inl (lw_g (lw_at lw_m3 2 rfl) rfl), Or.inr (lw_g (lw_at lw_m3 3 rfl) rfl)⟩
theorem fok_32_23_32 : FOK "KnowLocks$Trained" 23 32 1 := ⟨by decide, "KnowLocks$Trained", Or.inl (lw_g (lw_at lw_m3 2 rfl) rfl), Or.inr (lw_g (lw_at lw_m3 3 rfl) rfl)⟩
theorem fok_32_35_3 : FOK "KnowLocks$Trained" 35 3 0 := ⟨by decide, "KnowLocks$Quarter", Or.inl (lw_g (lw_at lw_m2 18 rfl) rfl), Or.inl rfl⟩
theorem fok_32_47_31 : FOK "KnowLocks$Trained" 47 31 0 := ⟨by decide, "KnowLocks$Trained", Or.inl (lw_g (lw_at lw_m2 237 rfl) rfl), Or.inr (lw_g (lw_at lw_m2 238 rfl) rfl)⟩
theorem fok_32_47_32 : FOK "KnowLocks$Trained" 47 32 0 := ⟨by decide, "KnowLocks$Trained", Or.inl (lw_g (lw_at lw_m2 237 rfl) rfl), Or.inr (lw_g (lw_at lw_m2 238 rfl) rfl)⟩
theorem fok_28_7_28 : FOK "KnowLocks$Tried" 7 28 0 := ⟨by decide, "KnowLocks$Tried", Or.inl (lw_g (lw_at lw_m6 69 rfl) rfl), Or.inl rfl⟩
theorem fok_28_13_28 : FOK "KnowLocks$Tried" 13 28 1 := ⟨by decide, "KnowLocks$Tried", Or.inl (lw_g (lw_at lw_m6 71 rfl) rfl), Or.inl rfl⟩
theorem fok_28_16_28 : FOK "KnowLocks$Tried" 16 28 2 := ⟨by decide, "KnowLocks$Tried", Or.inl (lw_g (lw_at lw_m6 73 rfl) rfl), Or.inl rfl⟩
theorem fok_16_7_12 : FOK "KnowLocks$Twin" 7 12 3 := ⟨by decide, "KnowLocks$Twin", Or.inl (lw_g (lw_at lw_m4 184 rfl) rfl), Or.inr (lw_g (lw_at lw_m4 185 rfl) rfl)⟩
theorem fok_16_7_13 : FOK "KnowLocks$Twin" 7 13 3 := ⟨by decide, "KnowLocks$Twin", Or.inl (lw_g (lw_at lw_m4 184 rfl) rfl), Or.inr (lw_g (lw_at lw_m4 185 rfl) rfl)⟩
theorem fok_16_7_14 : FOK "KnowLocks$Twin" 7 14 3 := ⟨by decide, "KnowLocks$Twin", Or.inl (lw_g (lw_at lw_m4 184 rfl) rfl), Or.inr (lw_g (lw_at lw_m4 185 rfl) rfl)⟩
theorem fok_16_7_15 : FOK "KnowLocks$Twin" 7 15 3 := ⟨by decide, "KnowLocks$Twin", Or.inl (lw_g (lw_at lw_m4 184 rfl) rfl), Or.inr (lw_g (lw_at lw_m4 185 rfl) rfl)⟩
theorem fok_16_7_16 : FOK "KnowLocks$Twin" 7 16 3 := ⟨by decide, "KnowLocks$Twin", Or.inl (lw_g (lw_at lw_m4 184 rfl) rfl), Or.inr (lw_g (lw_at lw_m4 185 rfl) rfl)⟩
theorem fok_35_7_35 : FOK "KnowLocks$Wrong" 7 35 6 := ⟨by decide, "KnowLocks$Wrong", Or.inl (lw_g (lw_at lw_m4 86 rfl) rfl), Or.inl rfl⟩
theorem fok_37_273_37 : FOK "java/lang/Long" 273 37 0 := ⟨by decide, "java/lang/Long", Or.inl (lw_g (lw_at lw_m5 101 rfl) rfl), Or.inl rfl⟩
theorem fok_37_273_39 : FOK "java/lang/Long" 273 39 0 := ⟨by decide, "java/lang/Long", Or.inl (lw_g (lw_at lw_m5 101 rfl) rfl), Or.inl rfl⟩
theorem fok_44_7_36 : FOK "java/util/AbstractList" 7 36 0 := ⟨by decide, "java/util/AbstractList", Or.inl (lw_g (lw_at lw_m1 233 rfl) rfl), Or.inl rfl⟩
theorem fok_36_9_36 : FOK "java/util/ArrayList" 9 36 1 := ⟨by decide, "java/util/ArrayList", Or.inl (lw_g (lw_at lw_m1 231 rfl) rfl), Or.inl rfl⟩
theorem fok_36_48_36 : FOK "java/util/ArrayList" 48 36 2 := ⟨by decide, "java/util/ArrayList", Or.inl (lw_g (lw_at lw_m1 232 rfl) rfl), Or.inl rfl⟩
theorem fok_36_63_36 : FOK "java/util/ArrayList" 63 36 0 := ⟨by decide, "java/util/ArrayList", Or.inl (lw_g (lw_at lw_m1 234 rfl) rfl), Or.inr (lw_g (lw_at lw_m1 235 rfl) rfl)⟩
/-- the place of a field: by the class of the code, the entry, the class of the object -/
def fKey (o idx ci : Nat) : Nat := (o * 1000 + idx) * 100 + ci
def okFe (x : Nat × Nat × Nat × Nat) : Prop := FOK (oN x.1) x.2.1 x.2.2.1 x.2.2.2
def fcT_l0 : List (Nat × Nat × Nat × Nat × Nat) := [(5600, 0, 56, 0, 0), (7000, 0, 70, 0, 1), (7700, 0, 77, 0, 2), (8100, 0, 81, 0, 3), (8900, 0, 89, 0, 4), (9600, 0, 96, 0, 7), (10000, 0, 100, 0, 8), (10600, 0, 106, 0, 9), (11300, 0, 113, 0, 10), (11900, 0, 119, 0, 12), (12701, 0, 127, 1, 10), (14035, 0, 140, 35, 6), (14902, 0, 149, 2, 0), (15203, 0, 152, 3, 0)]
theorem fcT_o0 : ∀ x ∈ fcT_l0, okFe x.2 := List.forall_mem_cons.mpr ⟨fok_0_56_0, List.forall_mem_cons.mpr ⟨fok_0_70_0, List.forall_mem_cons.mpr ⟨fok_0_77_0, List.forall_mem_cons.mpr ⟨fok_0_81_0, List.forall_mem_cons.mpr ⟨fok_0_89_0, List.forall_mem_cons.mpr ⟨fok_0_96_0, List.forall_mem_cons.mpr ⟨fok_0_100_0, List.forall_mem_cons.mpr ⟨fok_0_106_0, List.forall_mem_cons.mpr ⟨fok_0_113_0, List.forall_mem_cons.mpr ⟨fok_0_119_0, List.forall_mem_cons.mpr ⟨fok_0_127_1, List.forall_mem_cons.mpr ⟨fok_0_140_35, List.forall_mem_cons.mpr ⟨fok_0_149_2, List.forall_mem_cons.mpr ⟨fok_0_152_3, fun _ h => absurd h List.not_mem_nil⟩⟩⟩⟩⟩⟩⟩⟩⟩⟩⟩⟩⟩⟩
def fcT_l1 : List (Nat × Nat × Nat × Nat × Nat) := [(17712, 0, 177, 12, 2), (17713, 0, 177, 13, 2), (17714, 0, 177, 14, 2), (17715, 0, 177, 15, 2), (17716, 0, 177, 16, 2), (18312, 0, 183, 12, 1), (18313, 0, 183, 13, 1), (18314, 0, 183, 14, 1), (18315, 0, 183, 15, 1), (18316, 0, 183, 16, 1), (18902, 0, 189, 2, 3), (19305, 0, 193, 5, 0), (20205, 0, 202, 5, 1), (20505, 0, 205, 5, 2)]
theorem fcT_o1 : ∀ x ∈ fcT_l1, okFe x.2 := List.forall_mem_cons.mpr ⟨fok_0_177_12, List.forall_mem_cons.mpr ⟨fok_0_177_13, List.forall_mem_cons.mpr ⟨fok_0_177_14, List.forall_mem_cons.mpr ⟨fok_0_177_15, List.forall_mem_cons.mpr ⟨fok_0_177_16, List.forall_mem_cons.mpr ⟨fok_0_183_12, List.forall_mem_cons.mpr ⟨fok_0_183_13, List.forall_mem_cons.mpr ⟨fok_0_183_14, List.forall_mem_cons.mpr ⟨fok_0_183_15, List.forall_mem_cons.mpr ⟨fok_0_183_16, List.forall_mem_cons.mpr ⟨fok_0_189_2, List.forall_mem_cons.mpr ⟨fok_0_193_5, List.forall_mem_cons.mpr ⟨fok_0_202_5, List.forall_mem_cons.mpr ⟨fok_0_205_5, fun _ h => absurd h List.not_mem_nil⟩⟩⟩⟩⟩⟩⟩⟩⟩⟩⟩⟩⟩⟩
def fcT_l2 : List (Nat × Nat × Nat × Nat × Nat) := [(20805, 0, 208, 5, 5), (21105, 0, 211, 5, 6), (21405, 0, 214, 5, 3), (26529, 0, 265, 29, 0), (26829, 0, 268, 29, 1), (27502, 0, 275, 2, 1), (27802, 0, 278, 2, 2), (29803, 0, 298, 3, 6), (30103, 0, 301, 3, 7), (30731, 0, 307, 31, 0), (30732, 0, 307, 32, 0), (31000, 0, 310, 0, 5), (31300, 0, 313, 0, 6), (32633, 0, 326, 33, 3)]
theorem fcT_o2 : ∀ x ∈ fcT_l2, okFe x.2 := List.forall_mem_cons.mpr ⟨fok_0_208_5, List.forall_mem_cons.mpr ⟨fok_0_211_5, List.forall_mem_cons.mpr ⟨fok_0_214_5, List.forall_mem_cons.mpr ⟨fok_0_265_29, List.forall_mem_cons.mpr ⟨fok_0_268_29, List.forall_mem_cons.mpr ⟨fok_0_275_2, List.forall_mem_cons.mpr ⟨fok_0_278_2, List.forall_mem_cons.mpr ⟨fok_0_298_3, List.forall_mem_cons.mpr ⟨fok_0_301_3, List.forall_mem_cons.mpr ⟨fok_0_307_31, List.forall_mem_cons.mpr ⟨fok_0_307_32, List.forall_mem_cons.mpr ⟨fok_0_310_0, List.forall_mem_cons.mpr ⟨fok_0_313_0, List.forall_mem_cons.mpr ⟨fok_0_326_33, fun _ h => absurd h List.not_mem_nil⟩⟩⟩⟩⟩⟩⟩⟩⟩⟩⟩⟩⟩⟩
def fcT_l3 : List (Nat × Nat × Nat × Nat × Nat) := [(32933, 0, 329, 33, 4), (33428, 0, 334, 28, 0), (34028, 0, 340, 28, 1), (34128, 0, 341, 28, 2), (36831, 0, 368, 31, 0), (36832, 0, 368, 32, 0), (38100, 0, 381, 0, 11), (40830, 0, 408, 30, 0), (40930, 0, 409, 30, 1), (41003, 0, 410, 3, 4), (41303, 0, 413, 3, 5), (102301, 1, 23, 1, 0), (103301, 1, 33, 1, 1), (104601, 1, 46, 1, 2)]
theorem fcT_o3 : ∀ x ∈ fcT_l3, okFe x.2 := List.forall_mem_cons.mpr ⟨fok_0_329_33, List.forall_mem_cons.mpr ⟨fok_0_334_28, List.forall_mem_cons.mpr ⟨fok_0_340_28, List.forall_mem_cons.mpr ⟨fok_0_341_28, List.forall_mem_cons.mpr ⟨fok_0_368_31, List.forall_mem_cons.mpr ⟨fok_0_368_32, List.forall_mem_cons.mpr ⟨fok_0_381_0, List.forall_mem_cons.mpr ⟨fok_0_408_30, List.forall_mem_cons.mpr ⟨fok_0_409_30, List.forall_mem_cons.mpr ⟨fok_0_410_3, List.forall_mem_cons.mpr ⟨fok_0_413_3, List.forall_mem_cons.mpr ⟨fok_1_23_1, List.forall_mem_cons.mpr ⟨fok_1_33_1, List.forall_mem_cons.mpr ⟨fok_1_46_1, fun _ h => absurd h List.not_mem_nil⟩⟩⟩⟩⟩⟩⟩⟩⟩⟩⟩⟩⟩⟩
def fcT_l4 : List (Nat × Nat × Nat × Nat × Nat) := [(106101, 1, 61, 1, 3), (109201, 1, 92, 1, 4), (109701, 1, 97, 1, 5), (110001, 1, 100, 1, 8), (110301, 1, 103, 1, 9), (110701, 1, 107, 1, 11), (111001, 1, 110, 1, 12), (111401, 1, 114, 1, 13), (112301, 1, 123, 1, 10), (115601, 1, 156, 1, 14), (119101, 1, 191, 1, 6), (119501, 1, 195, 1, 7), (123503, 1, 235, 3, 0), (125812, 1, 258, 12, 1)]
theorem fcT_o4 : ∀ x ∈ fcT_l4, okFe x.2 := List.forall_mem_cons.mpr ⟨fok_1_61_1, List.forall_mem_cons.mpr ⟨fok_1_92_1, List.forall_mem_cons.mpr ⟨fok_1_97_1, List.forall_mem_cons.mpr ⟨fok_1_100_1, List.forall_mem_cons.mpr ⟨fok_1_103_1, List.forall_mem_cons.mpr ⟨fok_1_107_1, List.forall_mem_cons.mpr ⟨fok_1_110_1, List.forall_mem_cons.mpr ⟨fok_1_114_1, List.forall_mem_cons.mpr ⟨fok_1_123_1, List.forall_mem_cons.mpr ⟨fok_1_156_1, List.forall_mem_cons.mpr ⟨fok_1_191_1, List.forall_mem_cons.mpr ⟨fok_1_195_1, List.forall_mem_cons.mpr ⟨fok_1_235_3, List.forall_mem_cons.mpr ⟨fok_1_258_12, fun _ h => absurd h List.not_mem_nil⟩⟩⟩⟩⟩⟩⟩⟩⟩⟩⟩⟩⟩⟩
def fcT_l5 : List (Nat × Nat × Nat × Nat × Nat) := [(125813, 1, 258, 13, 1), (125814, 1, 258, 14, 1), (125815, 1, 258, 15, 1), (125816, 1, 258, 16, 1), (127303, 1, 273, 3, 2), (127603, 1, 276, 3, 3), (127803, 1, 278, 3, 1), (129003, 1, 290, 3, 4), (129403, 1, 294, 3, 5), (129603, 1, 296, 3, 8), (129903, 1, 299, 3, 6), (130203, 1, 302, 3, 7), (130903, 1, 309, 3, 9), (131603, 1, 316, 3, 10)]
theorem fcT_o5 : ∀ x ∈ fcT_l5, okFe x.2 := List.forall_mem_cons.mpr ⟨fok_1_258_13, List.forall_mem_cons.mpr ⟨fok_1_258_14, List.forall_mem_cons.mpr ⟨fok_1_258_15, List.forall_mem_cons.mpr ⟨fok_1_258_16, List.forall_mem_cons.mpr ⟨fok_1_273_3, List.forall_mem_cons.mpr ⟨fok_1_276_3, List.forall_mem_cons.mpr ⟨fok_1_278_3, List.forall_mem_cons.mpr ⟨fok_1_290_3, List.forall_mem_cons.mpr ⟨fok_1_294_3, List.forall_mem_cons.mpr ⟨fok_1_296_3, List.forall_mem_cons.mpr ⟨fok_1_299_3, List.forall_mem_cons.mpr ⟨fok_1_302_3, List.forall_mem_cons.mpr ⟨fok_1_309_3, List.forall_mem_cons.mpr ⟨fok_1_316_3, fun _ h => absurd h List.not_mem_nil⟩⟩⟩⟩⟩⟩⟩⟩⟩⟩⟩⟩⟩⟩
def fcT_l6 : List (Nat × Nat × Nat × Nat × Nat) := [(133501, 1, 335, 1, 15), (135320, 1, 353, 20, 1), (201102, 2, 11, 2, 3), (201702, 2, 17, 2, 4), (202002, 2, 20, 2, 5), (202602, 2, 26, 2, 6), (202902, 2, 29, 2, 7), (203302, 2, 33, 2, 0), (203702, 2, 37, 2, 1), (204102, 2, 41, 2, 2), (205003, 2, 50, 3, 2), (205303, 2, 53, 3, 3), (207603, 2, 76, 3, 0), (209212, 2, 92, 12, 1)]
theorem fcT_o6 : ∀ x ∈ fcT_l6, okFe x.2 := List.forall_mem_cons.mpr ⟨fok_1_335_1, List.forall_mem_cons.mpr ⟨fok_1_353_20, List.forall_mem_cons.mpr ⟨fok_2_11_2, List.forall_mem_cons.mpr ⟨fok_2_17_2, List.forall_mem_cons.mpr ⟨fok_2_20_2, List.forall_mem_cons.mpr ⟨fok_2_26_2, List.forall_mem_cons.mpr ⟨fok_2_29_2, List.forall_mem_cons.mpr ⟨fok_2_33_2, List.forall_mem_cons.mpr ⟨fok_2_37_2, List.forall_mem_cons.mpr ⟨fok_2_41_2, List.forall_mem_cons.mpr ⟨fok_2_50_3, List.forall_mem_cons.mpr ⟨fok_2_53_3, List.forall_mem_cons.mpr ⟨fok_2_76_3, List.forall_mem_cons.mpr ⟨fok_2_92_12, fun _ h => absurd h List.not_mem_nil⟩⟩⟩⟩⟩⟩⟩⟩⟩⟩⟩⟩⟩⟩
def fcT_l7 : List (Nat × Nat × Nat × Nat × Nat) := [(209213, 2, 92, 13, 1), (209214, 2, 92, 14, 1), (209215, 2, 92, 15, 1), (209216, 2, 92, 16, 1), (211805, 2, 118, 5, 0), (212603, 2, 126, 3, 4), (213303, 2, 133, 3, 5), (301403, 3, 14, 3, 0), (302003, 3, 20, 3, 1), (302303, 3, 23, 3, 2), (302703, 3, 27, 3, 3), (303003, 3, 30, 3, 4), (303303, 3, 33, 3, 6), (303703, 3, 37, 3, 7)]
theorem fcT_o7 : ∀ x ∈ fcT_l7, okFe x.2 := List.forall_mem_cons.mpr ⟨fok_2_92_13, List.forall_mem_cons.mpr ⟨fok_2_92_14, List.forall_mem_cons.mpr ⟨fok_2_92_15, List.forall_mem_cons.mpr ⟨fok_2_92_16, List.forall_mem_cons.mpr ⟨fok_2_118_5, List.forall_mem_cons.mpr ⟨fok_2_126_3, List.forall_mem_cons.mpr ⟨fok_2_133_3, List.forall_mem_cons.mpr ⟨fok_3_14_3, List.forall_mem_cons.mpr ⟨fok_3_20_3, List.forall_mem_cons.mpr ⟨fok_3_23_3, List.forall_mem_cons.mpr ⟨fok_3_27_3, List.forall_mem_cons.mpr ⟨fok_3_30_3, List.forall_mem_cons.mpr ⟨fok_3_33_3, List.forall_mem_cons.mpr ⟨fok_3_37_3, fun _ h => absurd h List.not_mem_nil⟩⟩⟩⟩⟩⟩⟩⟩⟩⟩⟩⟩⟩⟩
def fcT_l8 : List (Nat × Nat × Nat × Nat × Nat) := [(304303, 3, 43, 3, 11), (305712, 3, 57, 12, 0), (305713, 3, 57, 13, 0), (305714, 3, 57, 14, 0), (305715, 3, 57, 15, 0), (305716, 3, 57, 16, 0), (306703, 3, 67, 3, 10), (307504, 3, 75, 4, 0), (308703, 3, 87, 3, 9), (400904, 4, 9, 4, 0), (500705, 5, 7, 5, 0), (501305, 5, 13, 5, 1), (502205, 5, 22, 5, 2), (502505, 5, 25, 5, 3)]
theorem fcT_o8 : ∀ x ∈ fcT_l8, okFe x.2 := List.forall_mem_cons.mpr ⟨fok_3_43_3, List.forall_mem_cons.mpr ⟨fok_3_57_12, List.forall_mem_cons.mpr ⟨fok_3_57_13, List.forall_mem_cons.mpr ⟨fok_3_57_14, List.forall_mem_cons.mpr ⟨fok_3_57_15, List.forall_mem_cons.mpr ⟨fok_3_57_16, List.forall_mem_cons.mpr ⟨fok_3_67_3, List.forall_mem_cons.mpr ⟨fok_3_75_4, List.forall_mem_cons.mpr ⟨fok_3_87_3, List.forall_mem_cons.mpr ⟨fok_4_9_4, List.forall_mem_cons.mpr ⟨fok_5_7_5, List.forall_mem_cons.mpr ⟨fok_5_13_5, List.forall_mem_cons.mpr ⟨fok_5_22_5, List.forall_mem_cons.mpr ⟨fok_5_25_5, fun _ h => absurd h List.not_mem_nil⟩⟩⟩⟩⟩⟩⟩⟩⟩⟩⟩⟩⟩⟩
def fcT_l9 : List (Nat × Nat × Nat × Nat × Nat) := [(502805, 5, 28, 5, 4), (503205, 5, 32, 5, 5), (503505, 5, 35, 5, 6), (600906, 6, 9, 6, 0), (600907, 6, 9, 7, 0), (600908, 6, 9, 8, 0), (601506, 6, 15, 6, 1), (601507, 6, 15, 7, 1), (601508, 6, 15, 8, 1), (900909, 9, 9, 9, 0), (901509, 9, 15, 9, 1), (1000910, 10, 9, 10, 0), (1200712, 12, 7, 12, 0), (1200713, 12, 7, 13, 0)]
theorem fcT_o9 : ∀ x ∈ fcT_l9, okFe x.2 := List.forall_mem_cons.mpr ⟨fok_5_28_5, List.forall_mem_cons.mpr ⟨fok_5_32_5, List.forall_mem_cons.mpr ⟨fok_5_35_5, List.forall_mem_cons.mpr ⟨fok_6_9_6, List.forall_mem_cons.mpr ⟨fok_6_9_7, List.forall_mem_cons.mpr ⟨fok_6_9_8, List.forall_mem_cons.mpr ⟨fok_6_15_6, List.forall_mem_cons.mpr ⟨fok_6_15_7, List.forall_mem_cons.mpr ⟨fok_6_15_8, List.forall_mem_cons.mpr ⟨fok_9_9_9, List.forall_mem_cons.mpr ⟨fok_9_15_9, List.forall_mem_cons.mpr ⟨fok_10_9_10, List.forall_mem_cons.mpr ⟨fok_12_7_12, List.forall_mem_cons.mpr ⟨fok_12_7_13, fun _ h => absurd h List.not_mem_nil⟩⟩⟩⟩⟩⟩⟩⟩⟩⟩⟩⟩⟩⟩
def fcT_l10 : List (Nat × Nat × Nat × Nat × Nat) := [(1200714, 12, 7, 14, 0), (1200715, 12, 7, 15, 0), (1200716, 12, 7, 16, 0), (1201312, 12, 13, 12, 1), (1201313, 12, 13, 13, 1), (1201314, 12, 13, 14, 1), (1201315, 12, 13, 15, 1), (1201316, 12, 13, 16, 1), (1201712, 12, 17, 12, 2), (1201713, 12, 17, 13, 2), (1201714, 12, 17, 14, 2), (1201715, 12, 17, 15, 2), (1201716, 12, 17, 16, 2), (1202112, 12, 21, 12, 3)]
theorem fcT_o10 : ∀ x ∈ fcT_l10, okFe x.2 := List.forall_mem_cons.mpr ⟨fok_12_7_14, List.forall_mem_cons.mpr ⟨fok_12_7_15, List.forall_mem_cons.mpr ⟨fok_12_7_16, List.forall_mem_cons.mpr ⟨fok_12_13_12, List.forall_mem_cons.mpr ⟨fok_12_13_13, List.forall_mem_cons.mpr ⟨fok_12_13_14, List.forall_mem_cons.mpr ⟨fok_12_13_15, List.forall_mem_cons.mpr ⟨fok_12_13_16, List.forall_mem_cons.mpr ⟨fok_12_17_12, List.forall_mem_cons.mpr ⟨fok_12_17_13, List.forall_mem_cons.mpr ⟨fok_12_17_14, List.forall_mem_cons.mpr ⟨fok_12_17_15, List.forall_mem_cons.mpr ⟨fok_12_17_16, List.forall_mem_cons.mpr ⟨fok_12_21_12, fun _ h => absurd h List.not_mem_nil⟩⟩⟩⟩⟩⟩⟩⟩⟩⟩⟩⟩⟩⟩
def fcT_l11 : List (Nat × Nat × Nat × Nat × Nat) := [(1202113, 12, 21, 13, 3), (1202114, 12, 21, 14, 3), (1202115, 12, 21, 15, 3), (1202116, 12, 21, 16, 3), (1600712, 16, 7, 12, 3), (1600713, 16, 7, 13, 3), (1600714, 16, 7, 14, 3), (1600715, 16, 7, 15, 3), (1600716, 16, 7, 16, 3), (1700717, 17, 7, 17, 0), (1800718, 18, 7, 18, 0), (1801304, 18, 13, 4, 0), (1900719, 19, 7, 19, 0), (2001220, 20, 12, 20, 1)]
theorem fcT_o11 : ∀ x ∈ fcT_l11, okFe x.2 := List.forall_mem_cons.mpr ⟨fok_12_21_13, List.forall_mem_cons.mpr ⟨fok_12_21_14, List.forall_mem_cons.mpr ⟨fok_12_21_15, List.forall_mem_cons.mpr ⟨fok_12_21_16, List.forall_mem_cons.mpr ⟨fok_16_7_12, List.forall_mem_cons.mpr ⟨fok_16_7_13, List.forall_mem_cons.mpr ⟨fok_16_7_14, List.forall_mem_cons.mpr ⟨fok_16_7_15, List.forall_mem_cons.mpr ⟨fok_16_7_16, List.forall_mem_cons.mpr ⟨fok_17_7_17, List.forall_mem_cons.mpr ⟨fok_18_7_18, List.forall_mem_cons.mpr ⟨fok_18_13_4, List.forall_mem_cons.mpr ⟨fok_19_7_19, List.forall_mem_cons.mpr ⟨fok_20_12_20, fun _ h => absurd h List.not_mem_nil⟩⟩⟩⟩⟩⟩⟩⟩⟩⟩⟩⟩⟩⟩
def fcT_l12 : List (Nat × Nat × Nat × Nat × Nat) := [(2001820, 20, 18, 20, 0), (2800728, 28, 7, 28, 0), (2801328, 28, 13, 28, 1), (2801628, 28, 16, 28, 2), (2900729, 29, 7, 29, 0), (2901329, 29, 13, 29, 1), (3000730, 30, 7, 30, 0), (3001330, 30, 13, 30, 1), (3100331, 31, 3, 31, 4), (3101531, 31, 15, 31, 3), (3102731, 31, 27, 31, 1), (3102732, 31, 27, 32, 1), (3103903, 31, 39, 3, 0), (3105312, 31, 53, 12, 2)]
theorem fcT_o12 : ∀ x ∈ fcT_l12, okFe x.2 := List.forall_mem_cons.mpr ⟨fok_20_18_20, List.forall_mem_cons.mpr ⟨fok_28_7_28, List.forall_mem_cons.mpr ⟨fok_28_13_28, List.forall_mem_cons.mpr ⟨fok_28_16_28, List.forall_mem_cons.mpr ⟨fok_29_7_29, List.forall_mem_cons.mpr ⟨fok_29_13_29, List.forall_mem_cons.mpr ⟨fok_30_7_30, List.forall_mem_cons.mpr ⟨fok_30_13_30, List.forall_mem_cons.mpr ⟨fok_31_3_31, List.forall_mem_cons.mpr ⟨fok_31_15_31, List.forall_mem_cons.mpr ⟨fok_31_27_31, List.forall_mem_cons.mpr ⟨fok_31_27_32, List.forall_mem_cons.mpr ⟨fok_31_39_3, List.forall_mem_cons.mpr ⟨fok_31_53_12, fun _ h => absurd h List.not_mem_nil⟩⟩⟩⟩⟩⟩⟩⟩⟩⟩⟩⟩⟩⟩
def fcT_l13 : List (Nat × Nat × Nat × Nat × Nat) := [(3105313, 31, 53, 13, 2), (3105314, 31, 53, 14, 2), (3105315, 31, 53, 15, 2), (3105316, 31, 53, 16, 2), (3105631, 31, 56, 31, 0), (3105632, 31, 56, 32, 0), (3200332, 32, 3, 32, 3), (3202331, 32, 23, 31, 1), (3202332, 32, 23, 32, 1), (3203503, 32, 35, 3, 0), (3204731, 32, 47, 31, 0), (3204732, 32, 47, 32, 0), (3300333, 33, 3, 33, 5), (3301733, 33, 17, 33, 0)]
theorem fcT_o13 : ∀ x ∈ fcT_l13, okFe x.2 := List.forall_mem_cons.mpr ⟨fok_31_53_13, List.forall_mem_cons.mpr ⟨fok_31_53_14, List.forall_mem_cons.mpr ⟨fok_31_53_15, List.forall_mem_cons.mpr ⟨fok_31_53_16, List.forall_mem_cons.mpr ⟨fok_31_56_31, List.forall_mem_cons.mpr ⟨fok_31_56_32, List.forall_mem_cons.mpr ⟨fok_32_3_32, List.forall_mem_cons.mpr ⟨fok_32_23_31, List.forall_mem_cons.mpr ⟨fok_32_23_32, List.forall_mem_cons.mpr ⟨fok_32_35_3, List.forall_mem_cons.mpr ⟨fok_32_47_31, List.forall_mem_cons.mpr ⟨fok_32_47_32, List.forall_mem_cons.mpr ⟨fok_33_3_33, List.forall_mem_cons.mpr ⟨fok_33_17_33, fun _ h => absurd h List.not_mem_nil⟩⟩⟩⟩⟩⟩⟩⟩⟩⟩⟩⟩⟩⟩
def fcT_l14 : List (Nat × Nat × Nat × Nat × Nat) := [(3302033, 33, 20, 33, 1), (3302400, 33, 24, 0, 1), (3302802, 33, 28, 2, 3), (3303433, 33, 34, 33, 2), (3304233, 33, 42, 33, 4), (3304733, 33, 47, 33, 3), (3305805, 33, 58, 5, 0), (3308403, 33, 84, 3, 0), (3310105, 33, 101, 5, 4), (3400334, 34, 3, 34, 2), (3401534, 34, 15, 34, 0), (3401934, 34, 19, 34, 1), (3402200, 34, 22, 0, 1), (3402602, 34, 26, 2, 3)]
theorem fcT_o14 : ∀ x ∈ fcT_l14, okFe x.2 := List.forall_mem_cons.mpr ⟨fok_33_20_33, List.forall_mem_cons.mpr ⟨fok_33_24_0, List.forall_mem_cons.mpr ⟨fok_33_28_2, List.forall_mem_cons.mpr ⟨fok_33_34_33, List.forall_mem_cons.mpr ⟨fok_33_42_33, List.forall_mem_cons.mpr ⟨fok_33_47_33, List.forall_mem_cons.mpr ⟨fok_33_58_5, List.forall_mem_cons.mpr ⟨fok_33_84_3, List.forall_mem_cons.mpr ⟨fok_33_101_5, List.forall_mem_cons.mpr ⟨fok_34_3_34, List.forall_mem_cons.mpr ⟨fok_34_15_34, List.forall_mem_cons.mpr ⟨fok_34_19_34, List.forall_mem_cons.mpr ⟨fok_34_22_0, List.forall_mem_cons.mpr ⟨fok_34_26_2, fun _ h => absurd h List.not_mem_nil⟩⟩⟩⟩⟩⟩⟩⟩⟩⟩⟩⟩⟩⟩
def fcT_l15 : List (Nat × Nat × Nat × Nat × Nat) := [(3403805, 34, 38, 5, 1), (3404603, 34, 46, 3, 0), (3500735, 35, 7, 35, 6), (3600936, 36, 9, 36, 1), (3604836, 36, 48, 36, 2), (3606336, 36, 63, 36, 0), (3727337, 37, 273, 37, 0), (3727339, 37, 273, 39, 0), (4000721, 40, 7, 21, 0), (4000722, 40, 7, 22, 0), (4000723, 40, 7, 23, 0), (4000724, 40, 7, 24, 0), (4000725, 40, 7, 25, 0), (4000726, 40, 7, 26, 0)]
theorem fcT_o15 : ∀ x ∈ fcT_l15, okFe x.2 := List.forall_mem_cons.mpr ⟨fok_34_38_5, List.forall_mem_cons.mpr ⟨fok_34_46_3, List.forall_mem_cons.mpr ⟨fok_35_7_35, List.forall_mem_cons.mpr ⟨fok_36_9_36, List.forall_mem_cons.mpr ⟨fok_36_48_36, List.forall_mem_cons.mpr ⟨fok_36_63_36, List.forall_mem_cons.mpr ⟨fok_37_273_37, List.forall_mem_cons.mpr ⟨fok_37_273_39, List.forall_mem_cons.mpr ⟨fok_40_7_21, List.forall_mem_cons.mpr ⟨fok_40_7_22, List.forall_mem_cons.mpr ⟨fok_40_7_23, List.forall_mem_cons.mpr ⟨fok_40_7_24, List.forall_mem_cons.mpr ⟨fok_40_7_25, List.forall_mem_cons.mpr ⟨fok_40_7_26, fun _ h => absurd h List.not_mem_nil⟩⟩⟩⟩⟩⟩⟩⟩⟩⟩⟩⟩⟩⟩
def fcT_l16 : List (Nat × Nat × Nat × Nat × Nat) := [(4000727, 40, 7, 27, 0), (4300331, 43, 3, 31, 2), (4300332, 43, 3, 32, 2), (4301531, 43, 15, 31, 0), (4301532, 43, 15, 32, 0), (4302131, 43, 21, 31, 1), (4302132, 43, 21, 32, 1), (4302500, 43, 25, 0, 1), (4302902, 43, 29, 2, 3), (4400736, 44, 7, 36, 0)]
theorem fcT_o16 : ∀ x ∈ fcT_l16, okFe x.2 := List.forall_mem_cons.mpr ⟨fok_40_7_27, List.forall_mem_cons.mpr ⟨fok_43_3_31, List.forall_mem_cons.mpr ⟨fok_43_3_32, List.forall_mem_cons.mpr ⟨fok_43_15_31, List.forall_mem_cons.mpr ⟨fok_43_15_32, List.forall_mem_cons.mpr ⟨fok_43_21_31, List.forall_mem_cons.mpr ⟨fok_43_21_32, List.forall_mem_cons.mpr ⟨fok_43_25_0, List.forall_mem_cons.mpr ⟨fok_43_29_2, List.forall_mem_cons.mpr ⟨fok_44_7_36, fun _ h => absurd h List.not_mem_nil⟩⟩⟩⟩⟩⟩⟩⟩⟩⟩
def fcT (k : Nat) : Option (Nat × Nat × Nat × Nat) := if k < 15204 then fcT_l0.lookup k else if k < 20506 then fcT_l1.lookup k else if k < 32634 then fcT_l2.lookup k else if k < 104602 then fcT_l3.lookup k else if k < 125813 then fcT_l4.lookup k else if k < 131604 then fcT_l5.lookup k else if k < 209213 then fcT_l6.lookup k else if k < 303704 then fcT_l7.lookup k else if k < 502506 then fcT_l8.lookup k else if k < 1200714 then fcT_l9.lookup k else if k < 1202113 then fcT_l10.lookup k else if k < 2001221 then fcT_l11.lookup k else if k < 3105313 then fcT_l12.lookup k else if k < 3301734 then fcT_l13.lookup k else if k < 3402603 then fcT_l14.lookup k else if k < 4000727 then fcT_l15.lookup k else if k < 4400737 then fcT_l16.lookup k else none
theorem fcT_ok {k : Nat} {x : Nat × Nat × Nat × Nat} (h : fcT k = some x) : okFe x := by
  unfold fcT at h
  by_cases h0 : k < 15204
  · rw [if_pos h0] at h; exact fcT_o0 _ (lookup_mem h)
  rw [if_neg h0] at h
  by_cases h1 : k < 20506
  · rw [if_pos h1] at h; exact fcT_o1 _ (lookup_mem h)
  rw [if_neg h1] at h
  by_cases h2 : k < 32634
  · rw [if_pos h2] at h; exact fcT_o2 _ (lookup_mem h)
  rw [if_neg h2] at h
  by_cases h3 : k < 104602
  · rw [if_pos h3] at h; exact fcT_o3 _ (lookup_mem h)
  rw [if_neg h3] at h
  by_cases h4 : k < 125813
  · rw [if_pos h4] at h; exact fcT_o4 _ (lookup_mem h)
  rw [if_neg h4] at h
  by_cases h5 : k < 131604
  · rw [if_pos h5] at h; exact fcT_o5 _ (lookup_mem h)
  rw [if_neg h5] at h
  by_cases h6 : k < 209213
  · rw [if_pos h6] at h; exact fcT_o6 _ (lookup_mem h)
  rw [if_neg h6] at h
  by_cases h7 : k < 303704
  · rw [if_pos h7] at h; exact fcT_o7 _ (lookup_mem h)
  rw [if_neg h7] at h
  by_cases h8 : k < 502506
  · rw [if_pos h8] at h; exact fcT_o8 _ (lookup_mem h)
  rw [if_neg h8] at h
  by_cases h9 : k < 1200714
  · rw [if_pos h9] at h; exact fcT_o9 _ (lookup_mem h)
  rw [if_neg h9] at h
  by_cases h10 : k < 1202113
  · rw [if_pos h10] at h; exact fcT_o10 _ (lookup_mem h)
  rw [if_neg h10] at h
  by_cases h11 : k < 2001221
  · rw [if_pos h11] at h; exact fcT_o11 _ (lookup_mem h)
  rw [if_neg h11] at h
  by_cases h12 : k < 3105313
  · rw [if_pos h12] at h; exact fcT_o12 _ (lookup_mem h)
  rw [if_neg h12] at h
  by_cases h13 : k < 3301734
  · rw [if_pos h13] at h; exact fcT_o13 _ (lookup_mem h)
  rw [if_neg h13] at h
  by_cases h14 : k < 3402603
  · rw [if_pos h14] at h; exact fcT_o14 _ (lookup_mem h)
  rw [if_neg h14] at h
  by_cases h15 : k < 4000727
  · rw [if_pos h15] at h; exact fcT_o15 _ (lookup_mem h)
  rw [if_neg h15] at h
  by_cases h16 : k < 4400737
  · rw [if_pos h16] at h; exact fcT_o16 _ (lookup_mem h)
  rw [if_neg h16] at h
  cases h
def fpk (o idx ci : Nat) : Option Nat := (fcT (fKey o idx ci)).bind (fun x => if x.1 = o ∧ x.2.1 = idx ∧ x.2.2.1 = ci then some x.2.2.2 else none)
theorem fpk_0_56_0 : fpk 0 56 0 = some 0 := rfl
theorem fpk_0_70_0 : fpk 0 70 0 = some 1 := rfl
theorem fpk_0_77_0 : fpk 0 77 0 = some 2 := rfl
theorem fpk_0_81_0 : fpk 0 81 0 = some 3 := rfl
theorem fpk_0_89_0 : fpk 0 89 0 = some 4 := rfl
theorem fpk_0_96_0 : fpk 0 96 0 = some 7 := rfl
theorem fpk_0_100_0 : fpk 0 100 0 = some 8 := rfl
theorem fpk_0_106_0 : fpk 0 106 0 = some 9 := rfl
theorem fpk_0_113_0 : fpk 0 113 0 = some 10 := rfl
theorem fpk_0_119_0 : fpk 0 119 0 = some 12 := rfl
theorem fpk_0_127_1 : fpk 0 127 1 = some 10 := rfl
theorem fpk_0_140_35 : fpk 0 140 35 = some 6 := rfl
theorem fpk_0_149_2 : fpk 0 149 2 = some 0 := rfl
theorem fpk_0_152_3 : fpk 0 152 3 = some 0 := rfl
theorem fpk_0_177_12 : fpk 0 177 12 = some 2 := rfl
theorem fpk_0_177_13 : fpk 0 177 13 = some 2 := rfl
theorem fpk_0_177_14 : fpk 0 177 14 = some 2 := rfl
theorem fpk_0_177_15 : fpk 0 177 15 = some 2 := rfl
theorem fpk_0_177_16 : fpk 0 177 16 = some 2 := rfl
theorem fpk_0_183_12 : fpk 0 183 12 = some 1 := rfl
theorem fpk_0_183_13 : fpk 0 183 13 = some 1 := rfl
theorem fpk_0_183_14 : fpk 0 183 14 = some 1 := rfl
theorem fpk_0_183_15 : fpk 0 183 15 = some 1 := rfl
theorem fpk_0_183_16 : fpk 0 183 16 = some 1 := rfl
theorem fpk_0_189_2 : fpk 0 189 2 = some 3 := rfl
theorem fpk_0_193_5 : fpk 0 193 5 = some 0 := rfl
theorem fpk_0_202_5 : fpk 0 202 5 = some 1 := rfl
theorem fpk_0_205_5 : fpk 0 205 5 = some 2 := rfl
theorem fpk_0_208_5 : fpk 0 208 5 = some 5 := rfl
theorem fpk_0_211_5 : fpk 0 211 5 = some 6 := rfl
theorem fpk_0_214_5 : fpk 0 214 5 = some 3 := rfl
theorem fpk_0_265_29 : fpk 0 265 29 = some 0 := rfl
theorem fpk_0_268_29 : fpk 0 268 29 = some 1 := rfl
theorem fpk_0_275_2 : fpk 0 275 2 = some 1 := rfl
theorem fpk_0_278_2 : fpk 0 278 2 = some 2 := rfl
theorem fpk_0_298_3 : fpk 0 298 3 = some 6 := rfl
theorem fpk_0_301_3 : fpk 0 301 3 = some 7 := rfl
theorem fpk_0_307_31 : fpk 0 307 31 = some 0 := rfl
theorem fpk_0_307_32 : fpk 0 307 32 = some 0 := rfl
theorem fpk_0_310_0 : fpk 0 310 0 = some 5 := rfl
theorem fpk_0_313_0 : fpk 0 313 0 = some 6 := rfl
theorem fpk_0_326_33 : fpk 0 326 33 = some 3 := rfl
theorem fpk_0_329_33 : fpk 0 329 33 = some 4 := rfl
theorem fpk_0_334_28 : fpk 0 334 28 = some 0 := rfl
theorem fpk_0_340_28 : fpk 0 340 28 = some 1 := rfl
theorem fpk_0_341_28 : fpk 0 341 28 = some 2 := rfl
theorem fpk_0_368_31 : fpk 0 368 31 = some 0 := rfl
theorem fpk_0_368_32 : fpk 0 368 32 = some 0 := rfl
theorem fpk_0_381_0 : fpk 0 381 0 = some 11 := rfl
theorem fpk_0_408_30 : fpk 0 408 30 = some 0 := rfl
theorem fpk_0_409_30 : fpk 0 409 30 = some 1 := rfl
theorem fpk_0_410_3 : fpk 0 410 3 = some 4 := rfl
theorem fpk_0_413_3 : fpk 0 413 3 = some 5 := rfl
theorem fpk_29_7_29 : fpk 29 7 29 = some 0 := rfl
theorem fpk_29_13_29 : fpk 29 13 29 = some 1 := rfl
theorem fpk_31_3_31 : fpk 31 3 31 = some 4 := rfl
theorem fpk_31_15_31 : fpk 31 15 31 = some 3 := rfl
theorem fpk_31_27_31 : fpk 31 27 31 = some 1 := rfl
theorem fpk_31_27_32 : fpk 31 27 32 = some 1 := rfl
theorem fpk_31_39_3 : fpk 31 39 3 = some 0 := rfl
theorem fpk_31_53_12 : fpk 31 53 12 = some 2 := rfl
theorem fpk_31_53_13 : fpk 31 53 13 = some 2 := rfl
theorem fpk_31_53_14 : fpk 31 53 14 = some 2 := rfl
theorem fpk_31_53_15 : fpk 31 53 15 = some 2 := rfl
theorem fpk_31_53_16 : fpk 31 53 16 = some 2 := rfl
theorem fpk_31_56_31 : fpk 31 56 31 = some 0 := rfl
theorem fpk_31_56_32 : fpk 31 56 32 = some 0 := rfl
theorem fpk_20_12_20 : fpk 20 12 20 = some 1 := rfl
theorem fpk_20_18_20 : fpk 20 18 20 = some 0 := rfl
theorem fpk_10_9_10 : fpk 10 9 10 = some 0 := rfl
theorem fpk_43_3_31 : fpk 43 3 31 = some 2 := rfl
theorem fpk_43_3_32 : fpk 43 3 32 = some 2 := rfl
theorem fpk_43_15_31 : fpk 43 15 31 = some 0 := rfl
theorem fpk_43_15_32 : fpk 43 15 32 = some 0 := rfl
theorem fpk_43_21_31 : fpk 43 21 31 = some 1 := rfl
theorem fpk_43_21_32 : fpk 43 21 32 = some 1 := rfl
theorem fpk_43_25_0 : fpk 43 25 0 = some 1 := rfl
theorem fpk_43_29_2 : fpk 43 29 2 = some 3 := rfl
theorem fpk_33_3_33 : fpk 33 3 33 = some 5 := rfl
theorem fpk_33_17_33 : fpk 33 17 33 = some 0 := rfl
theorem fpk_33_20_33 : fpk 33 20 33 = some 1 := rfl
theorem fpk_33_24_0 : fpk 33 24 0 = some 1 := rfl
theorem fpk_33_28_2 : fpk 33 28 2 = some 3 := rfl
theorem fpk_33_34_33 : fpk 33 34 33 = some 2 := rfl
theorem fpk_33_42_33 : fpk 33 42 33 = some 4 := rfl
theorem fpk_33_47_33 : fpk 33 47 33 = some 3 := rfl
theorem fpk_33_58_5 : fpk 33 58 5 = some 0 := rfl
theorem fpk_33_84_3 : fpk 33 84 3 = some 0 := rfl
theorem fpk_33_101_5 : fpk 33 101 5 = some 4 := rfl
theorem fpk_18_7_18 : fpk 18 7 18 = some 0 := rfl
theorem fpk_18_13_4 : fpk 18 13 4 = some 0 := rfl
theorem fpk_4_9_4 : fpk 4 9 4 = some 0 := rfl
theorem fpk_34_3_34 : fpk 34 3 34 = some 2 := rfl
theorem fpk_34_15_34 : fpk 34 15 34 = some 0 := rfl
theorem fpk_34_19_34 : fpk 34 19 34 = some 1 := rfl
theorem fpk_34_22_0 : fpk 34 22 0 = some 1 := rfl
theorem fpk_34_26_2 : fpk 34 26 2 = some 3 := rfl
theorem fpk_34_38_5 : fpk 34 38 5 = some 1 := rfl
theorem fpk_34_46_3 : fpk 34 46 3 = some 0 := rfl
theorem fpk_12_7_12 : fpk 12 7 12 = some 0 := rfl
theorem fpk_12_7_13 : fpk 12 7 13 = some 0 := rfl
theorem fpk_12_7_14 : fpk 12 7 14 = some 0 := rfl
theorem fpk_12_7_15 : fpk 12 7 15 = some 0 := rfl
theorem fpk_12_7_16 : fpk 12 7 16 = some 0 := rfl
theorem fpk_12_13_12 : fpk 12 13 12 = some 1 := rfl
theorem fpk_12_13_13 : fpk 12 13 13 = some 1 := rfl
theorem fpk_12_13_14 : fpk 12 13 14 = some 1 := rfl
theorem fpk_12_13_15 : fpk 12 13 15 = some 1 := rfl
theorem fpk_12_13_16 : fpk 12 13 16 = some 1 := rfl
theorem fpk_12_17_12 : fpk 12 17 12 = some 2 := rfl
theorem fpk_12_17_13 : fpk 12 17 13 = some 2 := rfl
theorem fpk_12_17_14 : fpk 12 17 14 = some 2 := rfl
theorem fpk_12_17_15 : fpk 12 17 15 = some 2 := rfl
theorem fpk_12_17_16 : fpk 12 17 16 = some 2 := rfl
theorem fpk_12_21_12 : fpk 12 21 12 = some 3 := rfl
theorem fpk_12_21_13 : fpk 12 21 13 = some 3 := rfl
theorem fpk_12_21_14 : fpk 12 21 14 = some 3 := rfl
theorem fpk_12_21_15 : fpk 12 21 15 = some 3 := rfl
theorem fpk_12_21_16 : fpk 12 21 16 = some 3 := rfl
theorem fpk_40_7_21 : fpk 40 7 21 = some 0 := rfl
theorem fpk_40_7_22 : fpk 40 7 22 = some 0 := rfl
theorem fpk_40_7_23 : fpk 40 7 23 = some 0 := rfl
theorem fpk_40_7_24 : fpk 40 7 24 = some 0 := rfl
theorem fpk_40_7_25 : fpk 40 7 25 = some 0 := rfl
theorem fpk_40_7_26 : fpk 40 7 26 = some 0 := rfl
theorem fpk_40_7_27 : fpk 40 7 27 = some 0 := rfl
theorem fpk_5_7_5 : fpk 5 7 5 = some 0 := rfl
theorem fpk_5_13_5 : fpk 5 13 5 = some 1 := rfl
theorem fpk_5_22_5 : fpk 5 22 5 = some 2 := rfl
theorem fpk_5_25_5 : fpk 5 25 5 = some 3 := rfl
theorem fpk_5_28_5 : fpk 5 28 5 = some 4 := rfl
theorem fpk_5_32_5 : fpk 5 32 5 = some 5 := rfl
theorem fpk_5_35_5 : fpk 5 35 5 = some 6 := rfl
theorem fpk_30_7_30 : fpk 30 7 30 = some 0 := rfl
theorem fpk_30_13_30 : fpk 30 13 30 = some 1 := rfl
theorem fpk_6_9_6 : fpk 6 9 6 = some 0 := rfl
theorem fpk_6_9_7 : fpk 6 9 7 = some 0 := rfl
theorem fpk_6_9_8 : fpk 6 9 8 = some 0 := rfl
theorem fpk_6_15_6 : fpk 6 15 6 = some 1 := rfl
theorem fpk_6_15_7 : fpk 6 15 7 = some 1 := rfl
theorem fpk_6_15_8 : fpk 6 15 8 = some 1 := rfl
theorem fpk_9_9_9 : fpk 9 9 9 = some 0 := rfl
theorem fpk_9_15_9 : fpk 9 15 9 = some 1 := rfl
theorem fpk_2_11_2 : fpk 2 11 2 = some 3 := rfl
theorem fpk_2_17_2 : fpk 2 17 2 = some 4 := rfl
theorem fpk_2_20_2 : fpk 2 20 2 = some 5 := rfl
theorem fpk_2_26_2 : fpk 2 26 2 = some 6 := rfl
theorem fpk_2_29_2 : fpk 2 29 2 = some 7 := rfl
theorem fpk_2_33_2 : fpk 2 33 2 = some 0 := rfl
theorem fpk_2_37_2 : fpk 2 37 2 = some 1 := rfl
theorem fpk_2_41_2 : fpk 2 41 2 = some 2 := rfl
theorem fpk_2_50_3 : fpk 2 50 3 = some 2 := rfl
theorem fpk_2_53_3 : fpk 2 53 3 = some 3 := rfl
theorem fpk_2_76_3 : fpk 2 76 3 = some 0 := rfl
theorem fpk_2_92_12 : fpk 2 92 12 = some 1 := rfl
theorem fpk_2_92_13 : fpk 2 92 13 = some 1 := rfl
theorem fpk_2_92_14 : fpk 2 92 14 = some 1 := rfl
theorem fpk_2_92_15 : fpk 2 92 15 = some 1 := rfl
theorem fpk_2_92_16 : fpk 2 92 16 = some 1 := rfl
theorem fpk_2_118_5 : fpk 2 118 5 = some 0 := rfl
theorem fpk_2_126_3 : fpk 2 126 3 = some 4 := rfl
theorem fpk_2_133_3 : fpk 2 133 3 = some 5 := rfl
theorem fpk_19_7_19 : fpk 19 7 19 = some 0 := rfl
theorem fpk_17_7_17 : fpk 17 7 17 = some 0 := rfl
theorem fpk_3_14_3 : fpk 3 14 3 = some 0 := rfl
theorem fpk_3_20_3 : fpk 3 20 3 = some 1 := rfl
theorem fpk_3_23_3 : fpk 3 23 3 = some 2 := rfl
theorem fpk_3_27_3 : fpk 3 27 3 = some 3 := rfl
theorem fpk_3_30_3 : fpk 3 30 3 = some 4 := rfl
theorem fpk_3_33_3 : fpk 3 33 3 = some 6 := rfl
theorem fpk_3_37_3 : fpk 3 37 3 = some 7 := rfl
theorem fpk_3_43_3 : fpk 3 43 3 = some 11 := rfl
theorem fpk_3_57_12 : fpk 3 57 12 = some 0 := rfl
theorem fpk_3_57_13 : fpk 3 57 13 = some 0 := rfl
theorem fpk_3_57_14 : fpk 3 57 14 = some 0 := rfl
theorem fpk_3_57_15 : fpk 3 57 15 = some 0 := rfl
theorem fpk_3_57_16 : fpk 3 57 16 = some 0 := rfl
theorem fpk_3_67_3 : fpk 3 67 3 = some 10 := rfl
theorem fpk_3_75_4 : fpk 3 75 4 = some 0 := rfl
theorem fpk_3_87_3 : fpk 3 87 3 = some 9 := rfl
theorem fpk_1_23_1 : fpk 1 23 1 = some 0 := rfl
theorem fpk_1_33_1 : fpk 1 33 1 = some 1 := rfl
theorem fpk_1_46_1 : fpk 1 46 1 = some 2 := rfl
theorem fpk_1_61_1 : fpk 1 61 1 = some 3 := rfl
theorem fpk_1_92_1 : fpk 1 92 1 = some 4 := rfl
theorem fpk_1_97_1 : fpk 1 97 1 = some 5 := rfl
theorem fpk_1_100_1 : fpk 1 100 1 = some 8 := rfl
theorem fpk_1_103_1 : fpk 1 103 1 = some 9 := rfl
theorem fpk_1_107_1 : fpk 1 107 1 = some 11 := rfl
theorem fpk_1_110_1 : fpk 1 110 1 = some 12 := rfl
theorem fpk_1_114_1 : fpk 1 114 1 = some 13 := rfl
theorem fpk_1_123_1 : fpk 1 123 1 = some 10 := rfl
theorem fpk_1_156_1 : fpk 1 156 1 = some 14 := rfl
theorem fpk_1_191_1 : fpk 1 191 1 = some 6 := rfl
theorem fpk_1_195_1 : fpk 1 195 1 = some 7 := rfl
theorem fpk_1_235_3 : fpk 1 235 3 = some 0 := rfl
theorem fpk_1_258_12 : fpk 1 258 12 = some 1 := rfl
theorem fpk_1_258_13 : fpk 1 258 13 = some 1 := rfl
theorem fpk_1_258_14 : fpk 1 258 14 = some 1 := rfl
theorem fpk_1_258_15 : fpk 1 258 15 = some 1 := rfl
theorem fpk_1_258_16 : fpk 1 258 16 = some 1 := rfl
theorem fpk_1_273_3 : fpk 1 273 3 = some 2 := rfl
theorem fpk_1_276_3 : fpk 1 276 3 = some 3 := rfl
theorem fpk_1_278_3 : fpk 1 278 3 = some 1 := rfl
theorem fpk_1_290_3 : fpk 1 290 3 = some 4 := rfl
theorem fpk_1_294_3 : fpk 1 294 3 = some 5 := rfl
theorem fpk_1_296_3 : fpk 1 296 3 = some 8 := rfl
theorem fpk_1_299_3 : fpk 1 299 3 = some 6 := rfl
theorem fpk_1_302_3 : fpk 1 302 3 = some 7 := rfl
theorem fpk_1_309_3 : fpk 1 309 3 = some 9 := rfl
theorem fpk_1_316_3 : fpk 1 316 3 = some 10 := rfl
theorem fpk_1_335_1 : fpk 1 335 1 = some 15 := rfl
theorem fpk_1_353_20 : fpk 1 353 20 = some 1 := rfl
theorem fpk_32_3_32 : fpk 32 3 32 = some 3 := rfl
theorem fpk_32_23_31 : fpk 32 23 31 = some 1 := rfl
theorem fpk_32_23_32 : fpk 32 23 32 = some 1 := rfl
theorem fpk_32_35_3 : fpk 32 35 3 = some 0 := rfl
theorem fpk_32_47_31 : fpk 32 47 31 = some 0 := rfl
theorem fpk_32_47_32 : fpk 32 47 32 = some 0 := rfl
theorem fpk_28_7_28 : fpk 28 7 28 = some 0 := rfl
theorem fpk_28_13_28 : fpk 28 13 28 = some 1 := rfl
theorem fpk_28_16_28 : fpk 28 16 28 = some 2 := rfl
theorem fpk_16_7_12 : fpk 16 7 12 = some 3 := rfl
theorem fpk_16_7_13 : fpk 16 7 13 = some 3 := rfl
theorem fpk_16_7_14 : fpk 16 7 14 = some 3 := rfl
theorem fpk_16_7_15 : fpk 16 7 15 = some 3 := rfl
theorem fpk_16_7_16 : fpk 16 7 16 = some 3 := rfl
theorem fpk_35_7_35 : fpk 35 7 35 = some 6 := rfl
theorem fpk_37_273_37 : fpk 37 273 37 = some 0 := rfl
theorem fpk_37_273_39 : fpk 37 273 39 = some 0 := rfl
theorem fpk_44_7_36 : fpk 44 7 36 = some 0 := rfl
theorem fpk_36_9_36 : fpk 36 9 36 = some 1 := rfl
theorem fpk_36_48_36 : fpk 36 48 36 = some 2 := rfl
theorem fpk_36_63_36 : fpk 36 63 36 = some 0 := rfl
