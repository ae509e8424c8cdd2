set_option maxRecDepth 100000
def RJ0 : String := "java/util/AbstractCollection"
def RJ1 : String := "java/util/AbstractList"
def RJ10 : String := "java/lang/StringUTF16"
def RJ11 : String := "java/lang/Integer"
def RJ12 : String := "java/lang/Object"
def RJ2 : String := "java/util/ArrayList"
def TJ2 : u_T := fun k => match k with
  | 0 => ("java/util/AbstractList", "modCount", "I", false)
  | 1 => ("java/util/ArrayList", "elementData", "[Ljava/lang/Object;", false)
  | _ => ("java/util/ArrayList", "size", "I", false)
def tyJ2 : Nat → FieldType := fun k => match k with
  | 0 => .int
  | 1 => .array (.object "java/lang/Object")
  | _ => .int
abbrev wsJ20 : List Cond := u_ws RJ2 TJ2 3
theorem nmJ2 : ∀ a, a < 3 → ∀ b, b < 3 → a ≠ b → (TJ2 a).2.1 ≠ (TJ2 b).2.1 := by decide +kernel
theorem tyJ2_ok : ∀ k, k < 3 → parseFieldDescriptor (TJ2 k).2.2.1 = some (tyJ2 k) := by decide +kernel
theorem in_J2 : ∀ w ∈ wsJ20, w ∈ lw_all := lw_in wsJ20 [206, 202, 204] (by decide +kernel) (by decide +kernel)
def RJ3 : String := "jdk/internal/util/ArraysSupport"
def RJ4 : String := "java/lang/Math"
def RJ5 : String := "java/util/Arrays"
def RJ6 : String := "java/util/Objects"
def RJ7 : String := "jdk/internal/util/Preconditions"
def RJ8 : String := "java/lang/String"
def RJ9 : String := "java/lang/StringLatin1"
def RX0 : String := "RapTable"
def TX0 : u_T := fun k => match k with
  | 0 => ("RapTable", "refusals", "[I", true)
  | 1 => ("RapTable", "seats", "I", false)
  | 2 => ("RapTable", "sitting", "LRapTable$Sitting;", false)
  | 3 => ("RapTable", "images", "[LRapTable$Sitting;", true)
  | 4 => ("RapTable", "controls", "Ljava/util/ArrayList;", true)
  | 5 => ("RapTable", "force", "I", false)
  | 6 => ("RapTable", "ways", "Ljava/util/ArrayList;", false)
  | 7 => ("RapTable", "loss", "I", false)
  | 8 => ("RapTable", "smooth", "I", false)
  | 9 => ("RapTable", "run", "LRapTable$Run;", true)
  | 10 => ("RapTable", "tape", "[B", true)
  | 11 => ("RapTable", "taped", "I", false)
  | 12 => ("RapTable", "faultKind", "I", false)
  | 13 => ("RapTable", "faultPlace", "I", false)
  | 14 => ("RapTable", "reports", "Ljava/util/ArrayList;", true)
  | 15 => ("RapTable", "passing", "LRapTable$Pass;", true)
  | 16 => ("RapTable", "answers", "[I", true)
  | 17 => ("RapTable", "hits", "[I", true)
  | 18 => ("RapTable", "trials", "I", false)
  | _ => ("RapTable", "exact", "[J", true)
def tyX0 : Nat → FieldType := fun k => match k with
  | 0 => .array .int
  | 1 => .int
  | 2 => .object "RapTable$Sitting"
  | 3 => .array (.object "RapTable$Sitting")
  | 4 => .object "java/util/ArrayList"
  | 5 => .int
  | 6 => .object "java/util/ArrayList"
  | 7 => .int
  | 8 => .int
  | 9 => .object "RapTable$Run"
  | 10 => .array .byte
  | 11 => .int
  | 12 => .int
  | 13 => .int
  | 14 => .object "java/util/ArrayList"
  | 15 => .object "RapTable$Pass"
  | 16 => .array .int
  | 17 => .array .int
  | 18 => .int
  | _ => .array .long
abbrev wsX00 : List Cond := u_ws RX0 TX0 20
theorem nmX0 : ∀ a, a < 20 → ∀ b, b < 20 → a ≠ b → (TX0 a).2.1 ≠ (TX0 b).2.1 := by decide +kernel
theorem tyX0_ok : ∀ k, k < 20 → parseFieldDescriptor (TX0 k).2.2.1 = some (tyX0 k) := by decide +kernel
theorem in_X0 : ∀ w ∈ wsX00, w ∈ lw_all := lw_in wsX00 [390, 392, 394, 396, 398, 400, 402, 404, 406, 408, 410, 412, 414, 416, 418, 420, 422, 424, 426, 428] (by decide +kernel) (by decide +kernel)
def RX1 : String := "RapTable$Sitting"
def TX1 : u_T := fun k => match k with
  | 0 => ("RapTable$Sitting", "light", "[I", true)
  | 1 => ("RapTable$Sitting", "need", "[I", true)
  | 2 => ("RapTable$Sitting", "firm", "[I", true)
  | 3 => ("RapTable$Sitting", "eyes", "[[I", true)
  | 4 => ("RapTable$Sitting", "seems", "[[I", true)
  | 5 => ("RapTable$Sitting", "truly", "[[I", true)
  | 6 => ("RapTable$Sitting", "leads", "Ljava/util/ArrayList;", true)
  | 7 => ("RapTable$Sitting", "moves", "Ljava/util/ArrayList;", true)
  | 8 => ("RapTable$Sitting", "spots", "[I", true)
  | _ => ("RapTable$Sitting", "things", "I", false)
def tyX1 : Nat → FieldType := fun k => match k with
  | 0 => .array .int
  | 1 => .array .int
  | 2 => .array .int
  | 3 => .array (.array .int)
  | 4 => .array (.array .int)
  | 5 => .array (.array .int)
  | 6 => .object "java/util/ArrayList"
  | 7 => .object "java/util/ArrayList"
  | 8 => .array .int
  | _ => .int
abbrev wsX10 : List Cond := u_ws RX1 TX1 10
theorem nmX1 : ∀ a, a < 10 → ∀ b, b < 10 → a ≠ b → (TX1 a).2.1 ≠ (TX1 b).2.1 := by decide +kernel
theorem tyX1_ok : ∀ k, k < 10 → parseFieldDescriptor (TX1 k).2.2.1 = some (tyX1 k) := by decide +kernel
theorem in_X1 : ∀ w ∈ wsX10, w ∈ lw_all := lw_in wsX10 [236, 238, 240, 242, 244, 246, 248, 250, 252, 254] (by decide +kernel) (by decide +kernel)
def RX10 : String := "RapTable$Free"
def TX10 : u_T := fun k => match k with
  | _ => ("RapTable$Free", "side", "I", true)
def tyX10 : Nat → FieldType := fun k => match k with
  | _ => .int
abbrev wsX100 : List Cond := u_ws RX10 TX10 1
theorem nmX10 : ∀ a, a < 1 → ∀ b, b < 1 → a ≠ b → (TX10 a).2.1 ≠ (TX10 b).2.1 := by decide +kernel
theorem tyX10_ok : ∀ k, k < 1 → parseFieldDescriptor (TX10 k).2.2.1 = some (tyX10 k) := by decide +kernel
theorem in_X10 : ∀ w ∈ wsX100, w ∈ lw_all := lw_in wsX100 [1137] (by decide +kernel) (by decide +kernel)
def RX11 : String := "RapTable$Swap"
def TX11 : u_T := fun k => match k with
  | _ => ("RapTable$Swap", "side", "I", true)
def tyX11 : Nat → FieldType := fun k => match k with
  | _ => .int
abbrev wsX110 : List Cond := u_ws RX11 TX11 1
theorem nmX11 : ∀ a, a < 1 → ∀ b, b < 1 → a ≠ b → (TX11 a).2.1 ≠ (TX11 b).2.1 := by decide +kernel
theorem tyX11_ok : ∀ k, k < 1 → parseFieldDescriptor (TX11 k).2.2.1 = some (tyX11 k) := by decide +kernel
theorem in_X11 : ∀ w ∈ wsX110, w ∈ lw_all := lw_in wsX110 [1147] (by decide +kernel) (by decide +kernel)
def RX12 : String := "RapTable$Wait"
def TX12 : u_T := fun k => match k with
  | _ => ("RapTable$Wait", "many", "I", true)
def tyX12 : Nat → FieldType := fun k => match k with
  | _ => .int
abbrev wsX120 : List Cond := u_ws RX12 TX12 1
theorem nmX12 : ∀ a, a < 1 → ∀ b, b < 1 → a ≠ b → (TX12 a).2.1 ≠ (TX12 b).2.1 := by decide +kernel
theorem tyX12_ok : ∀ k, k < 1 → parseFieldDescriptor (TX12 k).2.2.1 = some (tyX12 k) := by decide +kernel
theorem in_X12 : ∀ w ∈ wsX120, w ∈ lw_all := lw_in wsX120 [1161] (by decide +kernel) (by decide +kernel)
def RX13 : String := "RapTable$Dark"
def TX13 : u_T := fun k => match k with
  | _ => ("RapTable$Dark", "most", "I", true)
def tyX13 : Nat → FieldType := fun k => match k with
  | _ => .int
abbrev wsX130 : List Cond := u_ws RX13 TX13 1
theorem nmX13 : ∀ a, a < 1 → ∀ b, b < 1 → a ≠ b → (TX13 a).2.1 ≠ (TX13 b).2.1 := by decide +kernel
theorem tyX13_ok : ∀ k, k < 1 → parseFieldDescriptor (TX13 k).2.2.1 = some (tyX13 k) := by decide +kernel
theorem in_X13 : ∀ w ∈ wsX130, w ∈ lw_all := lw_in wsX130 [1171] (by decide +kernel) (by decide +kernel)
def RX14 : String := "RapTable$Call"
def TX14 : u_T := fun k => match k with
  | _ => ("RapTable$Call", "pull", "I", true)
def tyX14 : Nat → FieldType := fun k => match k with
  | _ => .int
abbrev wsX140 : List Cond := u_ws RX14 TX14 1
theorem nmX14 : ∀ a, a < 1 → ∀ b, b < 1 → a ≠ b → (TX14 a).2.1 ≠ (TX14 b).2.1 := by decide +kernel
theorem tyX14_ok : ∀ k, k < 1 → parseFieldDescriptor (TX14 k).2.2.1 = some (tyX14 k) := by decide +kernel
theorem in_X14 : ∀ w ∈ wsX140, w ∈ lw_all := lw_in wsX140 [1181] (by decide +kernel) (by decide +kernel)
def RX15 : String := "RapTable$Away"
def RX16 : String := "RapTable$Doing"
def TX16 : u_T := fun k => match k with
  | 0 => ("RapTable$Wait", "many", "I", true)
  | _ => ("RapTable$Doing", "side", "I", true)
def tyX16 : Nat → FieldType := fun k => match k with
  | 0 => .int
  | _ => .int
abbrev wsX160 : List Cond := u_ws RX16 TX16 2
theorem nmX16 : ∀ a, a < 2 → ∀ b, b < 2 → a ≠ b → (TX16 a).2.1 ≠ (TX16 b).2.1 := by decide +kernel
theorem tyX16_ok : ∀ k, k < 2 → parseFieldDescriptor (TX16 k).2.2.1 = some (tyX16 k) := by decide +kernel
theorem in_X16 : ∀ w ∈ wsX160, w ∈ lw_all := lw_in wsX160 [1200, 1198] (by decide +kernel) (by decide +kernel)
def RX17 : String := "RapTable$Ready"
def TX17 : u_T := fun k => match k with
  | 0 => ("RapTable$Ready", "side", "I", true)
  | _ => ("RapTable$Ready", "many", "I", true)
def tyX17 : Nat → FieldType := fun k => match k with
  | 0 => .int
  | _ => .int
abbrev wsX170 : List Cond := u_ws RX17 TX17 2
theorem nmX17 : ∀ a, a < 2 → ∀ b, b < 2 → a ≠ b → (TX17 a).2.1 ≠ (TX17 b).2.1 := by decide +kernel
theorem tyX17_ok : ∀ k, k < 2 → parseFieldDescriptor (TX17 k).2.2.1 = some (tyX17 k) := by decide +kernel
theorem in_X17 : ∀ w ∈ wsX170, w ∈ lw_all := lw_in wsX170 [1210, 1212] (by decide +kernel) (by decide +kernel)
def RX18 : String := "RapTable$Report"
def RX19 : String := "RapTable$Came"
def TX19 : u_T := fun k => match k with
  | 0 => ("RapTable$Report", "person", "I", true)
  | 1 => ("RapTable$Report", "a", "I", true)
  | 2 => ("RapTable$Report", "b", "I", true)
  | 3 => ("RapTable$Report", "day", "I", true)
  | 4 => ("RapTable$Report", "this$0", "LRapTable;", true)
  | 5 => ("RapTable$Came", "thing", "I", true)
  | 6 => ("RapTable$Came", "spot", "I", true)
  | _ => ("RapTable$Came", "this$0", "LRapTable;", true)
def tyX19 : Nat → FieldType := fun k => match k with
  | 0 => .int
  | 1 => .int
  | 2 => .int
  | 3 => .int
  | 4 => .object "RapTable"
  | 5 => .int
  | 6 => .int
  | _ => .object "RapTable"
abbrev wsX190 : List Cond := u_ws RX19 TX19 8
-- two fields of one name: no nmX19
theorem tyX19_ok : ∀ k, k < 8 → parseFieldDescriptor (TX19 k).2.2.1 = some (tyX19 k) := by decide +kernel
theorem in_X19 : ∀ w ∈ wsX190, w ∈ lw_all := lw_in wsX190 [1281, 1283, 1285, 1287, 1289, 1275, 1277, 1279] (by decide +kernel) (by decide +kernel)
def RX2 : String := "RapTable$Run"
def TX2 : u_T := fun k => match k with
  | 0 => ("RapTable$Run", "person", "I", false)
  | 1 => ("RapTable$Run", "friends", "I", false)
  | 2 => ("RapTable$Run", "thing", "I", false)
  | 3 => ("RapTable$Run", "from", "I", false)
  | 4 => ("RapTable$Run", "to", "I", false)
  | 5 => ("RapTable$Run", "first", "I", false)
  | 6 => ("RapTable$Run", "last", "I", false)
  | 7 => ("RapTable$Run", "swapped", "I", false)
  | 8 => ("RapTable$Run", "pull", "I", false)
  | _ => ("RapTable$Run", "this$0", "LRapTable;", true)
def tyX2 : Nat → FieldType := fun k => match k with
  | 0 => .int
  | 1 => .int
  | 2 => .int
  | 3 => .int
  | 4 => .int
  | 5 => .int
  | 6 => .int
  | 7 => .int
  | 8 => .int
  | _ => .object "RapTable"
abbrev wsX20 : List Cond := u_ws RX2 TX2 10
theorem nmX2 : ∀ a, a < 10 → ∀ b, b < 10 → a ≠ b → (TX2 a).2.1 ≠ (TX2 b).2.1 := by decide +kernel
theorem tyX2_ok : ∀ k, k < 10 → parseFieldDescriptor (TX2 k).2.2.1 = some (tyX2 k) := by decide +kernel
theorem in_X2 : ∀ w ∈ wsX20, w ∈ lw_all := lw_in wsX20 [287, 289, 291, 293, 295, 297, 299, 301, 303, 305] (by decide +kernel) (by decide +kernel)
def RX20 : String := "RapTable$Held"
def TX20 : u_T := fun k => match k with
  | 0 => ("RapTable$Report", "person", "I", true)
  | 1 => ("RapTable$Report", "a", "I", true)
  | 2 => ("RapTable$Report", "b", "I", true)
  | 3 => ("RapTable$Report", "day", "I", true)
  | 4 => ("RapTable$Report", "this$0", "LRapTable;", true)
  | 5 => ("RapTable$Held", "hand", "I", true)
  | _ => ("RapTable$Held", "this$0", "LRapTable;", true)
def tyX20 : Nat → FieldType := fun k => match k with
  | 0 => .int
  | 1 => .int
  | 2 => .int
  | 3 => .int
  | 4 => .object "RapTable"
  | 5 => .int
  | _ => .object "RapTable"
abbrev wsX200 : List Cond := u_ws RX20 TX20 7
-- two fields of one name: no nmX20
theorem tyX20_ok : ∀ k, k < 7 → parseFieldDescriptor (TX20 k).2.2.1 = some (tyX20 k) := by decide +kernel
theorem in_X20 : ∀ w ∈ wsX200, w ∈ lw_all := lw_in wsX200 [1304, 1305, 1306, 1307, 1308, 1300, 1302] (by decide +kernel) (by decide +kernel)
def RX21 : String := "RapTable$Control"
def RX22 : String := "RapTable$Tie"
def TX22 : u_T := fun k => match k with
  | 0 => ("RapTable$Control", "from", "I", true)
  | 1 => ("RapTable$Control", "to", "I", true)
  | 2 => ("RapTable$Control", "cost", "I", true)
  | 3 => ("RapTable$Control", "this$0", "LRapTable;", true)
  | 4 => ("RapTable$Tie", "hand", "I", true)
  | _ => ("RapTable$Tie", "this$0", "LRapTable;", true)
def tyX22 : Nat → FieldType := fun k => match k with
  | 0 => .int
  | 1 => .int
  | 2 => .int
  | 3 => .object "RapTable"
  | 4 => .int
  | _ => .object "RapTable"
abbrev wsX220 : List Cond := u_ws RX22 TX22 6
-- two fields of one name: no nmX22
theorem tyX22_ok : ∀ k, k < 6 → parseFieldDescriptor (TX22 k).2.2.1 = some (tyX22 k) := by decide +kernel
theorem in_X22 : ∀ w ∈ wsX220, w ∈ lw_all := lw_in wsX220 [1470, 1472, 1474, 1476, 1466, 1468] (by decide +kernel) (by decide +kernel)
def RX23 : String := "RapTable$Lamp"
def TX23 : u_T := fun k => match k with
  | 0 => ("RapTable$Control", "from", "I", true)
  | 1 => ("RapTable$Control", "to", "I", true)
  | 2 => ("RapTable$Control", "cost", "I", true)
  | 3 => ("RapTable$Control", "this$0", "LRapTable;", true)
  | 4 => ("RapTable$Lamp", "light", "I", true)
  | _ => ("RapTable$Lamp", "this$0", "LRapTable;", true)
def tyX23 : Nat → FieldType := fun k => match k with
  | 0 => .int
  | 1 => .int
  | 2 => .int
  | 3 => .object "RapTable"
  | 4 => .int
  | _ => .object "RapTable"
abbrev wsX230 : List Cond := u_ws RX23 TX23 6
-- two fields of one name: no nmX23
theorem tyX23_ok : ∀ k, k < 6 → parseFieldDescriptor (TX23 k).2.2.1 = some (tyX23 k) := by decide +kernel
theorem in_X23 : ∀ w ∈ wsX230, w ∈ lw_all := lw_in wsX230 [1491, 1492, 1493, 1494, 1487, 1489] (by decide +kernel) (by decide +kernel)
def RX24 : String := "RapTable$Watch"
def TX24 : u_T := fun k => match k with
  | 0 => ("RapTable$Control", "from", "I", true)
  | 1 => ("RapTable$Control", "to", "I", true)
  | 2 => ("RapTable$Control", "cost", "I", true)
  | 3 => ("RapTable$Control", "this$0", "LRapTable;", true)
  | 4 => ("RapTable$Watch", "person", "I", true)
  | 5 => ("RapTable$Watch", "spot", "I", true)
  | _ => ("RapTable$Watch", "this$0", "LRapTable;", true)
def tyX24 : Nat → FieldType := fun k => match k with
  | 0 => .int
  | 1 => .int
  | 2 => .int
  | 3 => .object "RapTable"
  | 4 => .int
  | 5 => .int
  | _ => .object "RapTable"
abbrev wsX240 : List Cond := u_ws RX24 TX24 7
-- two fields of one name: no nmX24
theorem tyX24_ok : ∀ k, k < 7 → parseFieldDescriptor (TX24 k).2.2.1 = some (tyX24 k) := by decide +kernel
theorem in_X24 : ∀ w ∈ wsX240, w ∈ lw_all := lw_in wsX240 [1511, 1512, 1513, 1514, 1505, 1507, 1509] (by decide +kernel) (by decide +kernel)
def RX3 : String := "RapTable$Pass"
def TX3 : u_T := fun k => match k with
  | 0 => ("RapTable$Pass", "persons", "I", false)
  | 1 => ("RapTable$Pass", "a", "I", false)
  | 2 => ("RapTable$Pass", "b", "I", false)
  | 3 => ("RapTable$Pass", "goal", "I", false)
  | 4 => ("RapTable$Pass", "hops", "I", false)
  | 5 => ("RapTable$Pass", "free", "[Z", true)
  | 6 => ("RapTable$Pass", "vouching", "[I", true)
  | 7 => ("RapTable$Pass", "seeing", "[I", true)
  | 8 => ("RapTable$Pass", "hands", "[B", true)
  | 9 => ("RapTable$Pass", "soonest", "[[I", true)
  | 10 => ("RapTable$Pass", "leads", "[[[Z", true)
  | 11 => ("RapTable$Pass", "row", "[I", true)
  | _ => ("RapTable$Pass", "this$0", "LRapTable;", true)
def tyX3 : Nat → FieldType := fun k => match k with
  | 0 => .int
  | 1 => .int
  | 2 => .int
  | 3 => .int
  | 4 => .int
  | 5 => .array .boolean
  | 6 => .array .int
  | 7 => .array .int
  | 8 => .array .byte
  | 9 => .array (.array .int)
  | 10 => .array (.array (.array .boolean))
  | 11 => .array .int
  | _ => .object "RapTable"
abbrev wsX30 : List Cond := u_ws RX3 TX3 13
theorem nmX3 : ∀ a, a < 13 → ∀ b, b < 13 → a ≠ b → (TX3 a).2.1 ≠ (TX3 b).2.1 := by decide +kernel
theorem tyX3_ok : ∀ k, k < 13 → parseFieldDescriptor (TX3 k).2.2.1 = some (tyX3 k) := by decide +kernel
theorem in_X3 : ∀ w ∈ wsX30, w ∈ lw_all := lw_in wsX30 [332, 334, 336, 338, 340, 342, 344, 346, 348, 350, 352, 354, 356] (by decide +kernel) (by decide +kernel)
def RX4 : String := "RapTableModel"
def TX4 : u_T := fun k => match k with
  | 0 => ("RapTableModel", "thrown", "I", false)
  | 1 => ("RapTableModel", "refused", "[I", true)
  | 2 => ("RapTableModel", "all", "[I", true)
  | 3 => ("RapTableModel", "hasImage", "[Z", true)
  | 4 => ("RapTableModel", "seats", "I", false)
  | 5 => ("RapTableModel", "lit", "[I", true)
  | 6 => ("RapTableModel", "eyed", "[I", true)
  | 7 => ("RapTableModel", "watched", "[I", true)
  | 8 => ("RapTableModel", "vouched", "[I", true)
  | 9 => ("RapTableModel", "heldBy", "[I", true)
  | 10 => ("RapTableModel", "ruled", "[I", true)
  | 11 => ("RapTableModel", "isFree", "[Z", true)
  | 12 => ("RapTableModel", "isTied", "[Z", true)
  | 13 => ("RapTableModel", "tape", "[I", true)
  | 14 => ("RapTableModel", "taped", "I", false)
  | 15 => ("RapTableModel", "ways", "I", false)
  | 16 => ("RapTableModel", "loss", "I", false)
  | 17 => ("RapTableModel", "smooth", "I", false)
  | 18 => ("RapTableModel", "steps", "[I", true)
  | 19 => ("RapTableModel", "kindOf", "[I", true)
  | 20 => ("RapTableModel", "sideOf", "[I", true)
  | 21 => ("RapTableModel", "manyOf", "[I", true)
  | 22 => ("RapTableModel", "nameOf", "[J", true)
  | 23 => ("RapTableModel", "newWays", "I", false)
  | 24 => ("RapTableModel", "newLoss", "I", false)
  | 25 => ("RapTableModel", "newSmooth", "I", false)
  | 26 => ("RapTableModel", "at", "I", false)
  | 27 => ("RapTableModel", "behind", "I", false)
  | 28 => ("RapTableModel", "size", "I", false)
  | 29 => ("RapTableModel", "kind", "I", false)
  | 30 => ("RapTableModel", "number", "I", false)
  | 31 => ("RapTableModel", "wrong", "I", false)
  | 32 => ("RapTableModel", "wrongAt", "I", false)
  | 33 => ("RapTableModel", "name", "J", false)
  | 34 => ("RapTableModel", "faultKind", "I", false)
  | 35 => ("RapTableModel", "faultPlace", "I", false)
  | 36 => ("RapTableModel", "runner", "I", false)
  | 37 => ("RapTableModel", "withThem", "I", false)
  | 38 => ("RapTableModel", "lies", "I", false)
  | 39 => ("RapTableModel", "goal", "I", false)
  | 40 => ("RapTableModel", "called", "I", false)
  | 41 => ("RapTableModel", "swapped", "I", false)
  | 42 => ("RapTableModel", "reports", "I", false)
  | 43 => ("RapTableModel", "told", "[I", true)
  | 44 => ("RapTableModel", "soonest", "[I", true)
  | 45 => ("RapTableModel", "latest", "[I", true)
  | 46 => ("RapTableModel", "hops", "[I", true)
  | 47 => ("RapTableModel", "hopMany", "I", false)
  | 48 => ("RapTableModel", "controls", "I", false)
  | 49 => ("RapTableModel", "controlKind", "[I", true)
  | 50 => ("RapTableModel", "controlWhat", "[I", true)
  | 51 => ("RapTableModel", "controlV", "[I", true)
  | 52 => ("RapTableModel", "controlFrom", "[I", true)
  | 53 => ("RapTableModel", "controlTo", "[I", true)
  | 54 => ("RapTableModel", "controlCost", "[I", true)
  | 55 => ("RapTableModel", "fitted", "[Z", true)
  | 56 => ("RapTableModel", "trials", "I", false)
  | 57 => ("RapTableModel", "answers", "[I", true)
  | 58 => ("RapTableModel", "hitsOf", "[I", true)
  | 59 => ("RapTableModel", "rows", "[J", true)
  | 60 => ("RapTableModel", "eased", "I", false)
  | _ => ("RapTableModel", "easedSet", "I", false)
def tyX4 : Nat → FieldType := fun k => match k with
  | 0 => .int
  | 1 => .array .int
  | 2 => .array .int
  | 3 => .array .boolean
  | 4 => .int
  | 5 => .array .int
  | 6 => .array .int
  | 7 => .array .int
  | 8 => .array .int
  | 9 => .array .int
  | 10 => .array .int
  | 11 => .array .boolean
  | 12 => .array .boolean
  | 13 => .array .int
  | 14 => .int
  | 15 => .int
  | 16 => .int
  | 17 => .int
  | 18 => .array .int
  | 19 => .array .int
  | 20 => .array .int
  | 21 => .array .int
  | 22 => .array .long
  | 23 => .int
  | 24 => .int
  | 25 => .int
  | 26 => .int
  | 27 => .int
  | 28 => .int
  | 29 => .int
  | 30 => .int
  | 31 => .int
  | 32 => .int
  | 33 => .long
  | 34 => .int
  | 35 => .int
  | 36 => .int
  | 37 => .int
  | 38 => .int
  | 39 => .int
  | 40 => .int
  | 41 => .int
  | 42 => .int
  | 43 => .array .int
  | 44 => .array .int
  | 45 => .array .int
  | 46 => .array .int
  | 47 => .int
  | 48 => .int
  | 49 => .array .int
  | 50 => .array .int
  | 51 => .array .int
  | 52 => .array .int
  | 53 => .array .int
  | 54 => .array .int
  | 55 => .array .boolean
  | 56 => .int
  | 57 => .array .int
  | 58 => .array .int
  | 59 => .array .long
  | 60 => .int
  | _ => .int
abbrev wsX40 : List Cond := u_ws RX4 TX4 62
theorem nmX4 : ∀ a, a < 62 → ∀ b, b < 62 → a ≠ b → (TX4 a).2.1 ≠ (TX4 b).2.1 := by decide +kernel
theorem tyX4_ok : ∀ k, k < 62 → parseFieldDescriptor (TX4 k).2.2.1 = some (tyX4 k) := by decide +kernel
theorem in_X4 : ∀ w ∈ wsX40, w ∈ lw_all := lw_in wsX40 [1659, 1661, 1663, 1665, 1667, 1669, 1671, 1673, 1675, 1677, 1679, 1681, 1683, 1685, 1687, 1689, 1691, 1693, 1695, 1697, 1699, 1701, 1703, 1705, 1707, 1709, 1711, 1713, 1715, 1717, 1719, 1721, 1723, 1725, 1727, 1729, 1731, 1733, 1735, 1737, 1739, 1741, 1743, 1745, 1747, 1749, 1751, 1753, 1755, 1757, 1759, 1761, 1763, 1765, 1767, 1769, 1771, 1773, 1775, 1777, 1779, 1781] (by decide +kernel) (by decide +kernel)
def RX5 : String := "RapTable$Lead"
def TX5 : u_T := fun k => match k with
  | 0 => ("RapTable$Lead", "spot", "I", true)
  | 1 => ("RapTable$Lead", "pull", "I", true)
  | 2 => ("RapTable$Lead", "from", "I", true)
  | _ => ("RapTable$Lead", "to", "I", true)
def tyX5 : Nat → FieldType := fun k => match k with
  | 0 => .int
  | 1 => .int
  | 2 => .int
  | _ => .int
abbrev wsX50 : List Cond := u_ws RX5 TX5 4
theorem nmX5 : ∀ a, a < 4 → ∀ b, b < 4 → a ≠ b → (TX5 a).2.1 ≠ (TX5 b).2.1 := by decide +kernel
theorem tyX5_ok : ∀ k, k < 4 → parseFieldDescriptor (TX5 k).2.2.1 = some (tyX5 k) := by decide +kernel
theorem in_X5 : ∀ w ∈ wsX50, w ∈ lw_all := lw_in wsX50 [498, 500, 502, 504] (by decide +kernel) (by decide +kernel)
def RX6 : String := "RapTable$Move"
def TX6 : u_T := fun k => match k with
  | 0 => ("RapTable$Move", "hand", "I", true)
  | 1 => ("RapTable$Move", "thing", "I", true)
  | 2 => ("RapTable$Move", "from", "I", true)
  | 3 => ("RapTable$Move", "to", "I", true)
  | _ => ("RapTable$Move", "second", "I", true)
def tyX6 : Nat → FieldType := fun k => match k with
  | 0 => .int
  | 1 => .int
  | 2 => .int
  | 3 => .int
  | _ => .int
abbrev wsX60 : List Cond := u_ws RX6 TX6 5
theorem nmX6 : ∀ a, a < 5 → ∀ b, b < 5 → a ≠ b → (TX6 a).2.1 ≠ (TX6 b).2.1 := by decide +kernel
theorem tyX6_ok : ∀ k, k < 5 → parseFieldDescriptor (TX6 k).2.2.1 = some (tyX6 k) := by decide +kernel
theorem in_X6 : ∀ w ∈ wsX60, w ∈ lw_all := lw_in wsX60 [676, 678, 680, 682, 684] (by decide +kernel) (by decide +kernel)
def RX7 : String := "RapTable$Reader"
def TX7 : u_T := fun k => match k with
  | 0 => ("RapTable$Reader", "size", "I", true)
  | 1 => ("RapTable$Reader", "read", "Ljava/util/ArrayList;", true)
  | 2 => ("RapTable$Reader", "at", "I", false)
  | 3 => ("RapTable$Reader", "begin", "I", false)
  | 4 => ("RapTable$Reader", "token", "I", false)
  | 5 => ("RapTable$Reader", "value", "I", false)
  | 6 => ("RapTable$Reader", "fault", "I", false)
  | 7 => ("RapTable$Reader", "place", "I", false)
  | 8 => ("RapTable$Reader", "readLoss", "I", false)
  | 9 => ("RapTable$Reader", "readSmooth", "I", false)
  | _ => ("RapTable$Reader", "this$0", "LRapTable;", true)
def tyX7 : Nat → FieldType := fun k => match k with
  | 0 => .int
  | 1 => .object "java/util/ArrayList"
  | 2 => .int
  | 3 => .int
  | 4 => .int
  | 5 => .int
  | 6 => .int
  | 7 => .int
  | 8 => .int
  | 9 => .int
  | _ => .object "RapTable"
abbrev wsX70 : List Cond := u_ws RX7 TX7 11
theorem nmX7 : ∀ a, a < 11 → ∀ b, b < 11 → a ≠ b → (TX7 a).2.1 ≠ (TX7 b).2.1 := by decide +kernel
theorem tyX7_ok : ∀ k, k < 11 → parseFieldDescriptor (TX7 k).2.2.1 = some (tyX7 k) := by decide +kernel
theorem in_X7 : ∀ w ∈ wsX70, w ∈ lw_all := lw_in wsX70 [961, 963, 965, 967, 969, 971, 973, 975, 977, 979, 981] (by decide +kernel) (by decide +kernel)
def RX8 : String := "RapTable$Way"
def TX8 : u_T := fun k => match k with
  | 0 => ("RapTable$Way", "name", "[B", true)
  | 1 => ("RapTable$Way", "steps", "Ljava/util/ArrayList;", true)
  | _ => ("RapTable$Way", "seconds", "I", false)
def tyX8 : Nat → FieldType := fun k => match k with
  | 0 => .array .byte
  | 1 => .object "java/util/ArrayList"
  | _ => .int
abbrev wsX80 : List Cond := u_ws RX8 TX8 3
theorem nmX8 : ∀ a, a < 3 → ∀ b, b < 3 → a ≠ b → (TX8 a).2.1 ≠ (TX8 b).2.1 := by decide +kernel
theorem tyX8_ok : ∀ k, k < 3 → parseFieldDescriptor (TX8 k).2.2.1 = some (tyX8 k) := by decide +kernel
theorem in_X8 : ∀ w ∈ wsX80, w ∈ lw_all := lw_in wsX80 [1107, 1109, 1111] (by decide +kernel) (by decide +kernel)
def RX9 : String := "RapTable$Step"
