/-! THE CLASSES: names, fields (rows of claim/names); am_cl: the list of classes of the small machine. Numbers: FunDesk's classes by their X; 23.. exceptions -/
set_option maxRecDepth 100000
def RX3 : String := "FunDesk$Nil"
def RX1 : String := "FunDesk"
def TX1 : u_T := fun k => match k with
  | 0 => ("FunDesk", "number", "LFunDesk$Type;", true)
  | 1 => ("FunDesk", "truth", "LFunDesk$Type;", true)
  | 2 => ("FunDesk", "real", "LFunDesk$Type;", true)
  | 3 => ("FunDesk", "level", "I", false)
  | 4 => ("FunDesk", "stamp", "I", false)
  | 5 => ("FunDesk", "shown", "[C", true)
  | 6 => ("FunDesk", "letters", "[LFunDesk$Type;", true)
  | 7 => ("FunDesk", "showing", "I", false)
  | 8 => ("FunDesk", "named", "I", false)
  | 9 => ("FunDesk", "types", "[LFunDesk$Type;", true)
  | 10 => ("FunDesk", "kept", "I", false)
  | 11 => ("FunDesk", "text", "[C", true)
  | 12 => ("FunDesk", "length", "I", false)
  | 13 => ("FunDesk", "at", "I", false)
  | 14 => ("FunDesk", "depth", "I", false)
  | 15 => ("FunDesk", "bound", "I", false)
  | 16 => ("FunDesk", "ops", "[LFunDesk$Op;", true)
  | 17 => ("FunDesk", "args", "[I", true)
  | 18 => ("FunDesk", "tests", "[LFunDesk$Pattern;", true)
  | 19 => ("FunDesk", "size", "I", false)
  | 20 => ("FunDesk", "inner", "LFunDesk$Scope;", false)
  | 21 => ("FunDesk", "nil", "LFunDesk$Value;", true)
  | 22 => ("FunDesk", "stack", "[LFunDesk$Value;", true)
  | 23 => ("FunDesk", "dump", "[I", true)
  | 24 => ("FunDesk", "dumped", "[LFunDesk$Env;", true)
  | 25 => ("FunDesk", "env", "LFunDesk$Env;", false)
  | 26 => ("FunDesk", "top", "I", false)
  | 27 => ("FunDesk", "dumps", "I", false)
  | 28 => ("FunDesk", "pc", "I", false)
  | 29 => ("FunDesk", "state", "I", false)
  | 30 => ("FunDesk", "failure", "I", false)
  | 31 => ("FunDesk", "steps", "I", false)
  | 32 => ("FunDesk", "all", "I", false)
  | 33 => ("FunDesk", "seen", "LFunDesk$Value;", false)
  | 34 => ("FunDesk", "whole", "LFunDesk$Type;", false)
  | 35 => ("FunDesk", "of", "LFunDesk$Type;", false)
  | 36 => ("FunDesk", "tried", "Z", false)
  | 37 => ("FunDesk", "reason", "I", false)
  | 38 => ("FunDesk", "found", "LFunDesk$Expr;", false)
  | _ => ("FunDesk", "foundType", "LFunDesk$Type;", false)
def tyX1 : Nat → FieldType := fun k => match k with
  | 0 => .object "FunDesk$Type"
  | 1 => .object "FunDesk$Type"
  | 2 => .object "FunDesk$Type"
  | 3 => .int
  | 4 => .int
  | 5 => .array .char
  | 6 => .array (.object "FunDesk$Type")
  | 7 => .int
  | 8 => .int
  | 9 => .array (.object "FunDesk$Type")
  | 10 => .int
  | 11 => .array .char
  | 12 => .int
  | 13 => .int
  | 14 => .int
  | 15 => .int
  | 16 => .array (.object "FunDesk$Op")
  | 17 => .array .int
  | 18 => .array (.object "FunDesk$Pattern")
  | 19 => .int
  | 20 => .object "FunDesk$Scope"
  | 21 => .object "FunDesk$Value"
  | 22 => .array (.object "FunDesk$Value")
  | 23 => .array .int
  | 24 => .array (.object "FunDesk$Env")
  | 25 => .object "FunDesk$Env"
  | 26 => .int
  | 27 => .int
  | 28 => .int
  | 29 => .int
  | 30 => .int
  | 31 => .int
  | 32 => .int
  | 33 => .object "FunDesk$Value"
  | 34 => .object "FunDesk$Type"
  | 35 => .object "FunDesk$Type"
  | 36 => .boolean
  | 37 => .int
  | 38 => .object "FunDesk$Expr"
  | _ => .object "FunDesk$Type"
abbrev wsX10 : List Cond := u_ws RX1 TX1 40
theorem nmX1 : ∀ a, a < 40 → ∀ b, b < 40 → a ≠ b → (TX1 a).2.1 ≠ (TX1 b).2.1 := by decide +kernel
theorem tyX1_ok : ∀ k, k < 40 → parseFieldDescriptor (TX1 k).2.2.1 = some (tyX1 k) := by decide +kernel
theorem in_X1 : ∀ w ∈ wsX10, w ∈ lw_all := lw_in wsX10 [264, 266, 268, 270, 272, 274, 276, 278, 280, 282, 284, 286, 288, 290, 292, 294, 296, 298, 300, 302, 304, 306, 308, 310, 312, 314, 316, 318, 320, 322, 324, 326, 328, 330, 332, 334, 336, 338, 340, 342] (by decide +kernel) (by decide +kernel)
def RX2 : String := "FunDesk$Type"
def TX2 : u_T := fun k => match k with
  | 0 => ("FunDesk$Type", "sort", "LFunDesk$Sort;", true)
  | 1 => ("FunDesk$Type", "one", "LFunDesk$Type;", false)
  | 2 => ("FunDesk$Type", "two", "LFunDesk$Type;", false)
  | 3 => ("FunDesk$Type", "copy", "LFunDesk$Type;", false)
  | 4 => ("FunDesk$Type", "level", "I", false)
  | _ => ("FunDesk$Type", "stamp", "I", false)
def tyX2 : Nat → FieldType := fun k => match k with
  | 0 => .object "FunDesk$Sort"
  | 1 => .object "FunDesk$Type"
  | 2 => .object "FunDesk$Type"
  | 3 => .object "FunDesk$Type"
  | 4 => .int
  | _ => .int
abbrev wsX20 : List Cond := u_ws RX2 TX2 6
theorem nmX2 : ∀ a, a < 6 → ∀ b, b < 6 → a ≠ b → (TX2 a).2.1 ≠ (TX2 b).2.1 := by decide +kernel
theorem tyX2_ok : ∀ k, k < 6 → parseFieldDescriptor (TX2 k).2.2.1 = some (tyX2 k) := by decide +kernel
theorem in_X2 : ∀ w ∈ wsX20, w ∈ lw_all := lw_in wsX20 [167, 169, 171, 173, 175, 177] (by decide +kernel) (by decide +kernel)
def RX4 : String := "FunDeskModel"
def TX4 : u_T := fun k => match k with
  | 0 => ("FunDeskModel", "thrown", "I", false)
  | 1 => ("FunDeskModel", "text", "[C", true)
  | 2 => ("FunDeskModel", "length", "I", false)
  | 3 => ("FunDeskModel", "at", "I", false)
  | 4 => ("FunDeskModel", "draft", "[I", true)
  | 5 => ("FunDeskModel", "draftArg", "[I", true)
  | 6 => ("FunDeskModel", "draftName", "[I", true)
  | 7 => ("FunDeskModel", "drafts", "I", false)
  | 8 => ("FunDeskModel", "code", "[I", true)
  | 9 => ("FunDeskModel", "arg", "[I", true)
  | 10 => ("FunDeskModel", "codeEnd", "[I", true)
  | 11 => ("FunDeskModel", "size", "I", false)
  | 12 => ("FunDeskModel", "sign", "[I", true)
  | 13 => ("FunDeskModel", "signArg", "[I", true)
  | 14 => ("FunDeskModel", "signs", "I", false)
  | 15 => ("FunDeskModel", "keptSign", "[I", true)
  | 16 => ("FunDeskModel", "keptArg", "[I", true)
  | 17 => ("FunDeskModel", "goal", "[I", true)
  | 18 => ("FunDeskModel", "stage", "[I", true)
  | 19 => ("FunDeskModel", "x", "[I", true)
  | 20 => ("FunDeskModel", "y", "[I", true)
  | 21 => ("FunDeskModel", "open", "I", false)
  | 22 => ("FunDeskModel", "depth", "I", false)
  | 23 => ("FunDeskModel", "bound", "I", false)
  | 24 => ("FunDeskModel", "bad", "Z", false)
  | 25 => ("FunDeskModel", "otherwise", "[I", true)
  | 26 => ("FunDeskModel", "keptOtherwise", "[I", true)
  | 27 => ("FunDeskModel", "names", "[I", true)
  | 28 => ("FunDeskModel", "nameType", "[I", true)
  | 29 => ("FunDeskModel", "many", "[Z", true)
  | 30 => ("FunDeskModel", "around", "I", false)
  | 31 => ("FunDeskModel", "sort", "[I", true)
  | 32 => ("FunDeskModel", "first", "[I", true)
  | 33 => ("FunDeskModel", "second", "[I", true)
  | 34 => ("FunDeskModel", "copied", "[I", true)
  | 35 => ("FunDeskModel", "types", "I", false)
  | 36 => ("FunDeskModel", "row", "[I", true)
  | 37 => ("FunDeskModel", "typed", "I", false)
  | 38 => ("FunDeskModel", "wanted", "I", false)
  | 39 => ("FunDeskModel", "touched", "I", false)
  | 40 => ("FunDeskModel", "looked", "[I", true)
  | 41 => ("FunDeskModel", "looks", "I", false)
  | 42 => ("FunDeskModel", "parts", "[I", true)
  | 43 => ("FunDeskModel", "kept", "I", false)
  | 44 => ("FunDeskModel", "ill", "Z", false)
  | 45 => ("FunDeskModel", "met", "Z", false)
  | 46 => ("FunDeskModel", "pairs", "[I", true)
  | 47 => ("FunDeskModel", "same", "[I", true)
  | 48 => ("FunDeskModel", "shownText", "[C", true)
  | 49 => ("FunDeskModel", "showing", "I", false)
  | 50 => ("FunDeskModel", "value", "[J", true)
  | 51 => ("FunDeskModel", "top", "I", false)
  | 52 => ("FunDeskModel", "back", "[I", true)
  | 53 => ("FunDeskModel", "backNames", "[I", true)
  | 54 => ("FunDeskModel", "backs", "I", false)
  | 55 => ("FunDeskModel", "worth", "[J", true)
  | 56 => ("FunDeskModel", "outer", "[I", true)
  | 57 => ("FunDeskModel", "bindings", "I", false)
  | 58 => ("FunDeskModel", "inner", "I", false)
  | 59 => ("FunDeskModel", "item", "[J", true)
  | 60 => ("FunDeskModel", "others", "[J", true)
  | 61 => ("FunDeskModel", "lists", "I", false)
  | 62 => ("FunDeskModel", "reals", "[D", true)
  | 63 => ("FunDeskModel", "realsMade", "I", false)
  | 64 => ("FunDeskModel", "pc", "I", false)
  | 65 => ("FunDeskModel", "state", "I", false)
  | 66 => ("FunDeskModel", "failure", "I", false)
  | 67 => ("FunDeskModel", "steps", "I", false)
  | 68 => ("FunDeskModel", "all", "I", false)
  | 69 => ("FunDeskModel", "seen", "J", false)
  | 70 => ("FunDeskModel", "seenType", "I", false)
  | _ => ("FunDeskModel", "fitted", "[J", true)
def tyX4 : Nat → FieldType := fun k => match k with
  | 0 => .int
  | 1 => .array .char
  | 2 => .int
  | 3 => .int
  | 4 => .array .int
  | 5 => .array .int
  | 6 => .array .int
  | 7 => .int
  | 8 => .array .int
  | 9 => .array .int
  | 10 => .array .int
  | 11 => .int
  | 12 => .array .int
  | 13 => .array .int
  | 14 => .int
  | 15 => .array .int
  | 16 => .array .int
  | 17 => .array .int
  | 18 => .array .int
  | 19 => .array .int
  | 20 => .array .int
  | 21 => .int
  | 22 => .int
  | 23 => .int
  | 24 => .boolean
  | 25 => .array .int
  | 26 => .array .int
  | 27 => .array .int
  | 28 => .array .int
  | 29 => .array .boolean
  | 30 => .int
  | 31 => .array .int
  | 32 => .array .int
  | 33 => .array .int
  | 34 => .array .int
  | 35 => .int
  | 36 => .array .int
  | 37 => .int
  | 38 => .int
  | 39 => .int
  | 40 => .array .int
  | 41 => .int
  | 42 => .array .int
  | 43 => .int
  | 44 => .boolean
  | 45 => .boolean
  | 46 => .array .int
  | 47 => .array .int
  | 48 => .array .char
  | 49 => .int
  | 50 => .array .long
  | 51 => .int
  | 52 => .array .int
  | 53 => .array .int
  | 54 => .int
  | 55 => .array .long
  | 56 => .array .int
  | 57 => .int
  | 58 => .int
  | 59 => .array .long
  | 60 => .array .long
  | 61 => .int
  | 62 => .array .double
  | 63 => .int
  | 64 => .int
  | 65 => .int
  | 66 => .int
  | 67 => .int
  | 68 => .int
  | 69 => .long
  | 70 => .int
  | _ => .array .long
abbrev wsX40 : List Cond := u_ws RX4 TX4 72
theorem nmX4 : ∀ a, a < 72 → ∀ b, b < 72 → a ≠ b → (TX4 a).2.1 ≠ (TX4 b).2.1 := by decide +kernel
theorem tyX4_ok : ∀ k, k < 72 → parseFieldDescriptor (TX4 k).2.2.1 = some (tyX4 k) := by decide +kernel
theorem in_X4 : ∀ w ∈ wsX40, w ∈ lw_all := lw_in wsX40 [1480, 1482, 1484, 1486, 1488, 1490, 1492, 1494, 1496, 1498, 1500, 1502, 1504, 1506, 1508, 1510, 1512, 1514, 1516, 1518, 1520, 1522, 1524, 1526, 1528, 1530, 1532, 1534, 1536, 1538, 1540, 1542, 1544, 1546, 1548, 1550, 1552, 1554, 1556, 1558, 1560, 1562, 1564, 1566, 1568, 1570, 1572, 1574, 1576, 1578, 1580, 1582, 1584, 1586, 1588, 1590, 1592, 1594, 1596, 1598, 1600, 1602, 1604, 1606, 1608, 1610, 1612, 1614, 1616, 1618, 1620, 1622] (by decide +kernel) (by decide +kernel)
def RX5 : String := "FunDesk$Plain"
def TX5 : u_T := fun k => match k with
  | 0 => ("FunDesk$Plain", "op", "LFunDesk$Op;", true)
  | 1 => ("FunDesk$Plain", "arg", "I", true)
  | _ => ("FunDesk$Plain", "sort", "LFunDesk$Sort;", true)
def tyX5 : Nat → FieldType := fun k => match k with
  | 0 => .object "FunDesk$Op"
  | 1 => .int
  | _ => .object "FunDesk$Sort"
abbrev wsX50 : List Cond := u_ws RX5 TX5 3
theorem nmX5 : ∀ a, a < 3 → ∀ b, b < 3 → a ≠ b → (TX5 a).2.1 ≠ (TX5 b).2.1 := by decide +kernel
theorem tyX5_ok : ∀ k, k < 3 → parseFieldDescriptor (TX5 k).2.2.1 = some (tyX5 k) := by decide +kernel
theorem in_X5 : ∀ w ∈ wsX50, w ∈ lw_all := lw_in wsX50 [720, 722, 724] (by decide +kernel) (by decide +kernel)
def RX6 : String := "FunDesk$Operation"
def TX6 : u_T := fun k => match k with
  | 0 => ("FunDesk$Operation", "sign", "I", true)
  | 1 => ("FunDesk$Operation", "left", "LFunDesk$Expr;", true)
  | _ => ("FunDesk$Operation", "right", "LFunDesk$Expr;", true)
def tyX6 : Nat → FieldType := fun k => match k with
  | 0 => .int
  | 1 => .object "FunDesk$Expr"
  | _ => .object "FunDesk$Expr"
abbrev wsX60 : List Cond := u_ws RX6 TX6 3
theorem nmX6 : ∀ a, a < 3 → ∀ b, b < 3 → a ≠ b → (TX6 a).2.1 ≠ (TX6 b).2.1 := by decide +kernel
theorem tyX6_ok : ∀ k, k < 3 → parseFieldDescriptor (TX6 k).2.2.1 = some (tyX6 k) := by decide +kernel
theorem in_X6 : ∀ w ∈ wsX60, w ∈ lw_all := lw_in wsX60 [748, 750, 752] (by decide +kernel) (by decide +kernel)
def RX7 : String := "FunDesk$Name"
def TX7 : u_T := fun k => match k with
  | _ => ("FunDesk$Name", "name", "C", true)
def tyX7 : Nat → FieldType := fun k => match k with
  | _ => .char
abbrev wsX70 : List Cond := u_ws RX7 TX7 1
theorem nmX7 : ∀ a, a < 1 → ∀ b, b < 1 → a ≠ b → (TX7 a).2.1 ≠ (TX7 b).2.1 := by decide +kernel
theorem tyX7_ok : ∀ k, k < 1 → parseFieldDescriptor (TX7 k).2.2.1 = some (tyX7 k) := by decide +kernel
theorem in_X7 : ∀ w ∈ wsX70, w ∈ lw_all := lw_in wsX70 [769] (by decide +kernel) (by decide +kernel)
def RX8 : String := "FunDesk$Applied"
def TX8 : u_T := fun k => match k with
  | 0 => ("FunDesk$Applied", "function", "LFunDesk$Expr;", true)
  | _ => ("FunDesk$Applied", "argument", "LFunDesk$Expr;", true)
def tyX8 : Nat → FieldType := fun k => match k with
  | 0 => .object "FunDesk$Expr"
  | _ => .object "FunDesk$Expr"
abbrev wsX80 : List Cond := u_ws RX8 TX8 2
theorem nmX8 : ∀ a, a < 2 → ∀ b, b < 2 → a ≠ b → (TX8 a).2.1 ≠ (TX8 b).2.1 := by decide +kernel
theorem tyX8_ok : ∀ k, k < 2 → parseFieldDescriptor (TX8 k).2.2.1 = some (tyX8 k) := by decide +kernel
theorem in_X8 : ∀ w ∈ wsX80, w ∈ lw_all := lw_in wsX80 [780, 782] (by decide +kernel) (by decide +kernel)
def RX9 : String := "FunDesk$If"
def TX9 : u_T := fun k => match k with
  | 0 => ("FunDesk$If", "test", "LFunDesk$Expr;", true)
  | 1 => ("FunDesk$If", "yes", "LFunDesk$Expr;", true)
  | _ => ("FunDesk$If", "no", "LFunDesk$Expr;", true)
def tyX9 : Nat → FieldType := fun k => match k with
  | 0 => .object "FunDesk$Expr"
  | 1 => .object "FunDesk$Expr"
  | _ => .object "FunDesk$Expr"
abbrev wsX90 : List Cond := u_ws RX9 TX9 3
theorem nmX9 : ∀ a, a < 3 → ∀ b, b < 3 → a ≠ b → (TX9 a).2.1 ≠ (TX9 b).2.1 := by decide +kernel
theorem tyX9_ok : ∀ k, k < 3 → parseFieldDescriptor (TX9 k).2.2.1 = some (tyX9 k) := by decide +kernel
theorem in_X9 : ∀ w ∈ wsX90, w ∈ lw_all := lw_in wsX90 [802, 804, 806] (by decide +kernel) (by decide +kernel)
def RX10 : String := "FunDesk$Case"
def TX10 : u_T := fun k => match k with
  | 0 => ("FunDesk$Case", "what", "LFunDesk$Expr;", true)
  | 1 => ("FunDesk$Case", "patterns", "[LFunDesk$Pattern;", true)
  | 2 => ("FunDesk$Case", "exprs", "[LFunDesk$Expr;", true)
  | _ => ("FunDesk$Case", "many", "I", false)
def tyX10 : Nat → FieldType := fun k => match k with
  | 0 => .object "FunDesk$Expr"
  | 1 => .array (.object "FunDesk$Pattern")
  | 2 => .array (.object "FunDesk$Expr")
  | _ => .int
abbrev wsX100 : List Cond := u_ws RX10 TX10 4
theorem nmX10 : ∀ a, a < 4 → ∀ b, b < 4 → a ≠ b → (TX10 a).2.1 ≠ (TX10 b).2.1 := by decide +kernel
theorem tyX10_ok : ∀ k, k < 4 → parseFieldDescriptor (TX10 k).2.2.1 = some (tyX10 k) := by decide +kernel
theorem in_X10 : ∀ w ∈ wsX100, w ∈ lw_all := lw_in wsX100 [829, 831, 833, 835] (by decide +kernel) (by decide +kernel)
def RX11 : String := "FunDesk$Same"
def TX11 : u_T := fun k => match k with
  | 0 => ("FunDesk$Same", "sort", "LFunDesk$Sort;", true)
  | _ => ("FunDesk$Same", "number", "I", true)
def tyX11 : Nat → FieldType := fun k => match k with
  | 0 => .object "FunDesk$Sort"
  | _ => .int
abbrev wsX110 : List Cond := u_ws RX11 TX11 2
theorem nmX11 : ∀ a, a < 2 → ∀ b, b < 2 → a ≠ b → (TX11 a).2.1 ≠ (TX11 b).2.1 := by decide +kernel
theorem tyX11_ok : ∀ k, k < 2 → parseFieldDescriptor (TX11 k).2.2.1 = some (tyX11 k) := by decide +kernel
theorem in_X11 : ∀ w ∈ wsX110, w ∈ lw_all := lw_in wsX110 [854, 856] (by decide +kernel) (by decide +kernel)
def RX12 : String := "FunDesk$Any"
def TX12 : u_T := fun k => match k with
  | _ => ("FunDesk$Any", "name", "C", true)
def tyX12 : Nat → FieldType := fun k => match k with
  | _ => .char
abbrev wsX120 : List Cond := u_ws RX12 TX12 1
theorem nmX12 : ∀ a, a < 1 → ∀ b, b < 1 → a ≠ b → (TX12 a).2.1 ≠ (TX12 b).2.1 := by decide +kernel
theorem tyX12_ok : ∀ k, k < 1 → parseFieldDescriptor (TX12 k).2.2.1 = some (tyX12 k) := by decide +kernel
theorem in_X12 : ∀ w ∈ wsX120, w ∈ lw_all := lw_in wsX120 [866] (by decide +kernel) (by decide +kernel)
def RX13 : String := "FunDesk$Both"
def TX13 : u_T := fun k => match k with
  | 0 => ("FunDesk$Both", "first", "LFunDesk$Pattern;", true)
  | _ => ("FunDesk$Both", "rest", "LFunDesk$Pattern;", true)
def tyX13 : Nat → FieldType := fun k => match k with
  | 0 => .object "FunDesk$Pattern"
  | _ => .object "FunDesk$Pattern"
abbrev wsX130 : List Cond := u_ws RX13 TX13 2
theorem nmX13 : ∀ a, a < 2 → ∀ b, b < 2 → a ≠ b → (TX13 a).2.1 ≠ (TX13 b).2.1 := by decide +kernel
theorem tyX13_ok : ∀ k, k < 2 → parseFieldDescriptor (TX13 k).2.2.1 = some (tyX13 k) := by decide +kernel
theorem in_X13 : ∀ w ∈ wsX130, w ∈ lw_all := lw_in wsX130 [881, 883] (by decide +kernel) (by decide +kernel)
def RX14 : String := "FunDesk$Function"
def TX14 : u_T := fun k => match k with
  | 0 => ("FunDesk$Function", "name", "C", true)
  | _ => ("FunDesk$Function", "body", "LFunDesk$Expr;", true)
def tyX14 : Nat → FieldType := fun k => match k with
  | 0 => .char
  | _ => .object "FunDesk$Expr"
abbrev wsX140 : List Cond := u_ws RX14 TX14 2
theorem nmX14 : ∀ a, a < 2 → ∀ b, b < 2 → a ≠ b → (TX14 a).2.1 ≠ (TX14 b).2.1 := by decide +kernel
theorem tyX14_ok : ∀ k, k < 2 → parseFieldDescriptor (TX14 k).2.2.1 = some (tyX14 k) := by decide +kernel
theorem in_X14 : ∀ w ∈ wsX140, w ∈ lw_all := lw_in wsX140 [898, 900] (by decide +kernel) (by decide +kernel)
def RX15 : String := "FunDesk$Let"
def TX15 : u_T := fun k => match k with
  | 0 => ("FunDesk$Let", "name", "C", true)
  | 1 => ("FunDesk$Let", "what", "LFunDesk$Expr;", true)
  | 2 => ("FunDesk$Let", "in", "LFunDesk$Expr;", true)
  | _ => ("FunDesk$Let", "again", "Z", true)
def tyX15 : Nat → FieldType := fun k => match k with
  | 0 => .char
  | 1 => .object "FunDesk$Expr"
  | 2 => .object "FunDesk$Expr"
  | _ => .boolean
abbrev wsX150 : List Cond := u_ws RX15 TX15 4
theorem nmX15 : ∀ a, a < 4 → ∀ b, b < 4 → a ≠ b → (TX15 a).2.1 ≠ (TX15 b).2.1 := by decide +kernel
theorem tyX15_ok : ∀ k, k < 4 → parseFieldDescriptor (TX15 k).2.2.1 = some (tyX15 k) := by decide +kernel
theorem in_X15 : ∀ w ∈ wsX150, w ∈ lw_all := lw_in wsX150 [913, 915, 917, 919] (by decide +kernel) (by decide +kernel)
def RX16 : String := "FunDesk$Scope"
def TX16 : u_T := fun k => match k with
  | 0 => ("FunDesk$Scope", "name", "C", true)
  | 1 => ("FunDesk$Scope", "type", "LFunDesk$Type;", true)
  | _ => ("FunDesk$Scope", "next", "LFunDesk$Scope;", true)
def tyX16 : Nat → FieldType := fun k => match k with
  | 0 => .char
  | 1 => .object "FunDesk$Type"
  | _ => .object "FunDesk$Scope"
abbrev wsX160 : List Cond := u_ws RX16 TX16 3
theorem nmX16 : ∀ a, a < 3 → ∀ b, b < 3 → a ≠ b → (TX16 a).2.1 ≠ (TX16 b).2.1 := by decide +kernel
theorem tyX16_ok : ∀ k, k < 3 → parseFieldDescriptor (TX16 k).2.2.1 = some (tyX16 k) := by decide +kernel
theorem in_X16 : ∀ w ∈ wsX160, w ∈ lw_all := lw_in wsX160 [957, 959, 961] (by decide +kernel) (by decide +kernel)
def RX17 : String := "FunDesk$Whole"
def TX17 : u_T := fun k => match k with
  | _ => ("FunDesk$Whole", "number", "I", true)
def tyX17 : Nat → FieldType := fun k => match k with
  | _ => .int
abbrev wsX170 : List Cond := u_ws RX17 TX17 1
theorem nmX17 : ∀ a, a < 1 → ∀ b, b < 1 → a ≠ b → (TX17 a).2.1 ≠ (TX17 b).2.1 := by decide +kernel
theorem tyX17_ok : ∀ k, k < 1 → parseFieldDescriptor (TX17 k).2.2.1 = some (tyX17 k) := by decide +kernel
theorem in_X17 : ∀ w ∈ wsX170, w ∈ lw_all := lw_in wsX170 [397] (by decide +kernel) (by decide +kernel)
def RX18 : String := "FunDesk$Broken"
def TX18 : u_T := fun k => match k with
  | _ => ("FunDesk$Broken", "number", "D", true)
def tyX18 : Nat → FieldType := fun k => match k with
  | _ => .double
abbrev wsX180 : List Cond := u_ws RX18 TX18 1
theorem nmX18 : ∀ a, a < 1 → ∀ b, b < 1 → a ≠ b → (TX18 a).2.1 ≠ (TX18 b).2.1 := by decide +kernel
theorem tyX18_ok : ∀ k, k < 1 → parseFieldDescriptor (TX18 k).2.2.1 = some (tyX18 k) := by decide +kernel
theorem in_X18 : ∀ w ∈ wsX180, w ∈ lw_all := lw_in wsX180 [412] (by decide +kernel) (by decide +kernel)
def RX19 : String := "FunDesk$Built"
def TX19 : u_T := fun k => match k with
  | _ => ("FunDesk$Built", "name", "I", true)
def tyX19 : Nat → FieldType := fun k => match k with
  | _ => .int
abbrev wsX190 : List Cond := u_ws RX19 TX19 1
theorem nmX19 : ∀ a, a < 1 → ∀ b, b < 1 → a ≠ b → (TX19 a).2.1 ≠ (TX19 b).2.1 := by decide +kernel
theorem tyX19_ok : ∀ k, k < 1 → parseFieldDescriptor (TX19 k).2.2.1 = some (tyX19 k) := by decide +kernel
theorem in_X19 : ∀ w ∈ wsX190, w ∈ lw_all := lw_in wsX190 [422] (by decide +kernel) (by decide +kernel)
def RX20 : String := "FunDesk$Closure"
def TX20 : u_T := fun k => match k with
  | 0 => ("FunDesk$Closure", "at", "I", true)
  | _ => ("FunDesk$Closure", "env", "LFunDesk$Env;", true)
def tyX20 : Nat → FieldType := fun k => match k with
  | 0 => .int
  | _ => .object "FunDesk$Env"
abbrev wsX200 : List Cond := u_ws RX20 TX20 2
theorem nmX20 : ∀ a, a < 2 → ∀ b, b < 2 → a ≠ b → (TX20 a).2.1 ≠ (TX20 b).2.1 := by decide +kernel
theorem tyX20_ok : ∀ k, k < 2 → parseFieldDescriptor (TX20 k).2.2.1 = some (tyX20 k) := by decide +kernel
theorem in_X20 : ∀ w ∈ wsX200, w ∈ lw_all := lw_in wsX200 [433, 435] (by decide +kernel) (by decide +kernel)
def RX21 : String := "FunDesk$Env"
def TX21 : u_T := fun k => match k with
  | 0 => ("FunDesk$Env", "value", "LFunDesk$Value;", false)
  | _ => ("FunDesk$Env", "next", "LFunDesk$Env;", true)
def tyX21 : Nat → FieldType := fun k => match k with
  | 0 => .object "FunDesk$Value"
  | _ => .object "FunDesk$Env"
abbrev wsX210 : List Cond := u_ws RX21 TX21 2
theorem nmX21 : ∀ a, a < 2 → ∀ b, b < 2 → a ≠ b → (TX21 a).2.1 ≠ (TX21 b).2.1 := by decide +kernel
theorem tyX21_ok : ∀ k, k < 2 → parseFieldDescriptor (TX21 k).2.2.1 = some (tyX21 k) := by decide +kernel
theorem in_X21 : ∀ w ∈ wsX210, w ∈ lw_all := lw_in wsX210 [479, 481] (by decide +kernel) (by decide +kernel)
def RX22 : String := "FunDesk$Cons"
def TX22 : u_T := fun k => match k with
  | 0 => ("FunDesk$Cons", "first", "LFunDesk$Value;", true)
  | _ => ("FunDesk$Cons", "rest", "LFunDesk$Value;", true)
def tyX22 : Nat → FieldType := fun k => match k with
  | 0 => .object "FunDesk$Value"
  | _ => .object "FunDesk$Value"
abbrev wsX220 : List Cond := u_ws RX22 TX22 2
theorem nmX22 : ∀ a, a < 2 → ∀ b, b < 2 → a ≠ b → (TX22 a).2.1 ≠ (TX22 b).2.1 := by decide +kernel
theorem tyX22_ok : ∀ k, k < 2 → parseFieldDescriptor (TX22 k).2.2.1 = some (tyX22 k) := by decide +kernel
theorem in_X22 : ∀ w ∈ wsX220, w ∈ lw_all := lw_in wsX220 [500, 502] (by decide +kernel) (by decide +kernel)
def RJ5 : String := "java/lang/IllegalArgumentException"
def TJ5 : u_T := fun k => match k with
  | 0 => ("java/lang/Throwable", "cause", "Ljava/lang/Throwable;", false)
  | 1 => ("java/lang/Throwable", "stackTrace", "[Ljava/lang/StackTraceElement;", false)
  | 2 => ("java/lang/Throwable", "suppressedExceptions", "Ljava/util/List;", false)
  | 3 => ("java/lang/Throwable", "detailMessage", "Ljava/lang/String;", false)
  | 4 => ("java/lang/Throwable", "backtrace", "Ljava/lang/Object;", false)
  | _ => ("java/lang/Throwable", "depth", "I", false)
def tyJ5 : Nat → FieldType := fun k => match k with
  | 0 => .object "java/lang/Throwable"
  | 1 => .array (.object "java/lang/StackTraceElement")
  | 2 => .object "java/util/List"
  | 3 => .object "java/lang/String"
  | 4 => .object "java/lang/Object"
  | _ => .int
abbrev wsJ50 : List Cond := u_ws RJ5 TJ5 6
theorem nmJ5 : ∀ a, a < 6 → ∀ b, b < 6 → a ≠ b → (TJ5 a).2.1 ≠ (TJ5 b).2.1 := by decide +kernel
theorem tyJ5_ok : ∀ k, k < 6 → parseFieldDescriptor (TJ5 k).2.2.1 = some (tyJ5 k) := by decide +kernel
theorem in_J5 : ∀ w ∈ wsJ50, w ∈ lw_all := lw_in wsJ50 [601, 603, 605, 607, 609, 651] (by decide +kernel) (by decide +kernel)
def RJ6 : String := "java/util/NoSuchElementException"
def TJ6 : u_T := fun k => match k with
  | 0 => ("java/lang/Throwable", "cause", "Ljava/lang/Throwable;", false)
  | 1 => ("java/lang/Throwable", "stackTrace", "[Ljava/lang/StackTraceElement;", false)
  | 2 => ("java/lang/Throwable", "suppressedExceptions", "Ljava/util/List;", false)
  | 3 => ("java/lang/Throwable", "detailMessage", "Ljava/lang/String;", false)
  | 4 => ("java/lang/Throwable", "backtrace", "Ljava/lang/Object;", false)
  | _ => ("java/lang/Throwable", "depth", "I", false)
def tyJ6 : Nat → FieldType := fun k => match k with
  | 0 => .object "java/lang/Throwable"
  | 1 => .array (.object "java/lang/StackTraceElement")
  | 2 => .object "java/util/List"
  | 3 => .object "java/lang/String"
  | 4 => .object "java/lang/Object"
  | _ => .int
abbrev wsJ60 : List Cond := u_ws RJ6 TJ6 6
theorem nmJ6 : ∀ a, a < 6 → ∀ b, b < 6 → a ≠ b → (TJ6 a).2.1 ≠ (TJ6 b).2.1 := by decide +kernel
theorem tyJ6_ok : ∀ k, k < 6 → parseFieldDescriptor (TJ6 k).2.2.1 = some (tyJ6 k) := by decide +kernel
theorem in_J6 : ∀ w ∈ wsJ60, w ∈ lw_all := lw_in wsJ60 [1004, 1005, 1006, 1007, 1008, 1013] (by decide +kernel) (by decide +kernel)
def RJ7 : String := "java/lang/UnsupportedOperationException"
def TJ7 : u_T := fun k => match k with
  | 0 => ("java/lang/Throwable", "cause", "Ljava/lang/Throwable;", false)
  | 1 => ("java/lang/Throwable", "stackTrace", "[Ljava/lang/StackTraceElement;", false)
  | 2 => ("java/lang/Throwable", "suppressedExceptions", "Ljava/util/List;", false)
  | 3 => ("java/lang/Throwable", "detailMessage", "Ljava/lang/String;", false)
  | 4 => ("java/lang/Throwable", "backtrace", "Ljava/lang/Object;", false)
  | _ => ("java/lang/Throwable", "depth", "I", false)
def tyJ7 : Nat → FieldType := fun k => match k with
  | 0 => .object "java/lang/Throwable"
  | 1 => .array (.object "java/lang/StackTraceElement")
  | 2 => .object "java/util/List"
  | 3 => .object "java/lang/String"
  | 4 => .object "java/lang/Object"
  | _ => .int
abbrev wsJ70 : List Cond := u_ws RJ7 TJ7 6
theorem nmJ7 : ∀ a, a < 6 → ∀ b, b < 6 → a ≠ b → (TJ7 a).2.1 ≠ (TJ7 b).2.1 := by decide +kernel
theorem tyJ7_ok : ∀ k, k < 6 → parseFieldDescriptor (TJ7 k).2.2.1 = some (tyJ7 k) := by decide +kernel
theorem in_J7 : ∀ w ∈ wsJ70, w ∈ lw_all := lw_in wsJ70 [1091, 1092, 1093, 1094, 1095, 1100] (by decide +kernel) (by decide +kernel)
def RJ9 : String := "java/lang/IllegalStateException"
def TJ9 : u_T := fun k => match k with
  | 0 => ("java/lang/Throwable", "cause", "Ljava/lang/Throwable;", false)
  | 1 => ("java/lang/Throwable", "stackTrace", "[Ljava/lang/StackTraceElement;", false)
  | 2 => ("java/lang/Throwable", "suppressedExceptions", "Ljava/util/List;", false)
  | 3 => ("java/lang/Throwable", "detailMessage", "Ljava/lang/String;", false)
  | 4 => ("java/lang/Throwable", "backtrace", "Ljava/lang/Object;", false)
  | _ => ("java/lang/Throwable", "depth", "I", false)
def tyJ9 : Nat → FieldType := fun k => match k with
  | 0 => .object "java/lang/Throwable"
  | 1 => .array (.object "java/lang/StackTraceElement")
  | 2 => .object "java/util/List"
  | 3 => .object "java/lang/String"
  | 4 => .object "java/lang/Object"
  | _ => .int
abbrev wsJ90 : List Cond := u_ws RJ9 TJ9 6
theorem nmJ9 : ∀ a, a < 6 → ∀ b, b < 6 → a ≠ b → (TJ9 a).2.1 ≠ (TJ9 b).2.1 := by decide +kernel
theorem tyJ9_ok : ∀ k, k < 6 → parseFieldDescriptor (TJ9 k).2.2.1 = some (tyJ9 k) := by decide +kernel
theorem in_J9 : ∀ w ∈ wsJ90, w ∈ lw_all := lw_in wsJ90 [1350, 1351, 1352, 1353, 1354, 1359] (by decide +kernel) (by decide +kernel)
def RJ10 : String := "java/lang/IndexOutOfBoundsException"
def TJ10 : u_T := fun k => match k with
  | 0 => ("java/lang/Throwable", "cause", "Ljava/lang/Throwable;", false)
  | 1 => ("java/lang/Throwable", "stackTrace", "[Ljava/lang/StackTraceElement;", false)
  | 2 => ("java/lang/Throwable", "suppressedExceptions", "Ljava/util/List;", false)
  | 3 => ("java/lang/Throwable", "detailMessage", "Ljava/lang/String;", false)
  | 4 => ("java/lang/Throwable", "backtrace", "Ljava/lang/Object;", false)
  | _ => ("java/lang/Throwable", "depth", "I", false)
def tyJ10 : Nat → FieldType := fun k => match k with
  | 0 => .object "java/lang/Throwable"
  | 1 => .array (.object "java/lang/StackTraceElement")
  | 2 => .object "java/util/List"
  | 3 => .object "java/lang/String"
  | 4 => .object "java/lang/Object"
  | _ => .int
abbrev wsJ100 : List Cond := u_ws RJ10 TJ10 6
theorem nmJ10 : ∀ a, a < 6 → ∀ b, b < 6 → a ≠ b → (TJ10 a).2.1 ≠ (TJ10 b).2.1 := by decide +kernel
theorem tyJ10_ok : ∀ k, k < 6 → parseFieldDescriptor (TJ10 k).2.2.1 = some (tyJ10 k) := by decide +kernel
theorem in_J10 : ∀ w ∈ wsJ100, w ∈ lw_all := lw_in wsJ100 [1365, 1366, 1367, 1368, 1369, 1374] (by decide +kernel) (by decide +kernel)
def am_cl : List vw_C := [(RX3, (fun _ => ("", "", "", false)), 0), (RX1, TX1, 40), (RX2, TX2, 6), (RX3, (fun _ => ("", "", "", false)), 0), (RX4, TX4, 72), (RX5, TX5, 3), (RX6, TX6, 3), (RX7, TX7, 1), (RX8, TX8, 2), (RX9, TX9, 3), (RX10, TX10, 4), (RX11, TX11, 2), (RX12, TX12, 1), (RX13, TX13, 2), (RX14, TX14, 2), (RX15, TX15, 4), (RX16, TX16, 3), (RX17, TX17, 1), (RX18, TX18, 1), (RX19, TX19, 1), (RX20, TX20, 2), (RX21, TX21, 2), (RX22, TX22, 2), (RJ5, TJ5, 6), (RJ6, TJ6, 6), (RJ7, TJ7, 6), (RJ9, TJ9, 6), (RJ10, TJ10, 6)]
def am_fty : Nat → Nat → FieldType := fun ci => match ci with
  | 1 => tyX1
  | 2 => tyX2
  | 4 => tyX4
  | 5 => tyX5
  | 6 => tyX6
  | 7 => tyX7
  | 8 => tyX8
  | 9 => tyX9
  | 10 => tyX10
  | 11 => tyX11
  | 12 => tyX12
  | 13 => tyX13
  | 14 => tyX14
  | 15 => tyX15
  | 16 => tyX16
  | 17 => tyX17
  | 18 => tyX18
  | 19 => tyX19
  | 20 => tyX20
  | 21 => tyX21
  | 22 => tyX22
  | 23 => tyJ5
  | 24 => tyJ6
  | 25 => tyJ7
  | 26 => tyJ9
  | 27 => tyJ10
  | _ => fun _ => .int
theorem q190 : (Jvm.Cond.instantiable "FunDesk$Nil" (0 : Nat)) ∈ lw_all := lw_g (lw_at lw_m1 84 rfl) rfl
theorem q112 : (Jvm.Cond.initialized "FunDesk$Nil") ∈ lw_all := lw_g (lw_at lw_m1 6 rfl) rfl
theorem q143 : (Jvm.Cond.instantiable "FunDesk" (40 : Nat)) ∈ lw_all := lw_g (lw_at lw_m1 37 rfl) rfl
theorem q107 : (Jvm.Cond.initialized "FunDesk") ∈ lw_all := lw_g (lw_at lw_m1 1 rfl) rfl
theorem q151 : (Jvm.Cond.instantiable "FunDesk$Type" (6 : Nat)) ∈ lw_all := lw_g (lw_at lw_m1 45 rfl) rfl
theorem q108 : (Jvm.Cond.initialized "FunDesk$Type") ∈ lw_all := lw_g (lw_at lw_m1 2 rfl) rfl
theorem q1403 : (Jvm.Cond.instantiable "FunDeskModel" (72 : Nat)) ∈ lw_all := lw_g (lw_at lw_m6 97 rfl) rfl
theorem q113 : (Jvm.Cond.initialized "FunDeskModel") ∈ lw_all := lw_g (lw_at lw_m1 7 rfl) rfl
theorem q710 : (Jvm.Cond.instantiable "FunDesk$Plain" (3 : Nat)) ∈ lw_all := lw_g (lw_at lw_m3 124 rfl) rfl
theorem q118 : (Jvm.Cond.initialized "FunDesk$Plain") ∈ lw_all := lw_g (lw_at lw_m1 12 rfl) rfl
theorem q736 : (Jvm.Cond.instantiable "FunDesk$Operation" (3 : Nat)) ∈ lw_all := lw_g (lw_at lw_m3 150 rfl) rfl
theorem q120 : (Jvm.Cond.initialized "FunDesk$Operation") ∈ lw_all := lw_g (lw_at lw_m1 14 rfl) rfl
theorem q763 : (Jvm.Cond.instantiable "FunDesk$Name" (1 : Nat)) ∈ lw_all := lw_g (lw_at lw_m3 177 rfl) rfl
theorem q121 : (Jvm.Cond.initialized "FunDesk$Name") ∈ lw_all := lw_g (lw_at lw_m1 15 rfl) rfl
theorem q773 : (Jvm.Cond.instantiable "FunDesk$Applied" (2 : Nat)) ∈ lw_all := lw_g (lw_at lw_m3 187 rfl) rfl
theorem q122 : (Jvm.Cond.initialized "FunDesk$Applied") ∈ lw_all := lw_g (lw_at lw_m1 16 rfl) rfl
theorem q794 : (Jvm.Cond.instantiable "FunDesk$If" (3 : Nat)) ∈ lw_all := lw_g (lw_at lw_m3 208 rfl) rfl
theorem q123 : (Jvm.Cond.initialized "FunDesk$If") ∈ lw_all := lw_g (lw_at lw_m1 17 rfl) rfl
theorem q814 : (Jvm.Cond.instantiable "FunDesk$Case" (4 : Nat)) ∈ lw_all := lw_g (lw_at lw_m3 228 rfl) rfl
theorem q124 : (Jvm.Cond.initialized "FunDesk$Case") ∈ lw_all := lw_g (lw_at lw_m1 18 rfl) rfl
theorem q847 : (Jvm.Cond.instantiable "FunDesk$Same" (2 : Nat)) ∈ lw_all := lw_g (lw_at lw_m4 21 rfl) rfl
theorem q125 : (Jvm.Cond.initialized "FunDesk$Same") ∈ lw_all := lw_g (lw_at lw_m1 19 rfl) rfl
theorem q860 : (Jvm.Cond.instantiable "FunDesk$Any" (1 : Nat)) ∈ lw_all := lw_g (lw_at lw_m4 34 rfl) rfl
theorem q126 : (Jvm.Cond.initialized "FunDesk$Any") ∈ lw_all := lw_g (lw_at lw_m1 20 rfl) rfl
theorem q870 : (Jvm.Cond.instantiable "FunDesk$Both" (2 : Nat)) ∈ lw_all := lw_g (lw_at lw_m4 44 rfl) rfl
theorem q127 : (Jvm.Cond.initialized "FunDesk$Both") ∈ lw_all := lw_g (lw_at lw_m1 21 rfl) rfl
theorem q891 : (Jvm.Cond.instantiable "FunDesk$Function" (2 : Nat)) ∈ lw_all := lw_g (lw_at lw_m4 65 rfl) rfl
theorem q128 : (Jvm.Cond.initialized "FunDesk$Function") ∈ lw_all := lw_g (lw_at lw_m1 22 rfl) rfl
theorem q904 : (Jvm.Cond.instantiable "FunDesk$Let" (4 : Nat)) ∈ lw_all := lw_g (lw_at lw_m4 78 rfl) rfl
theorem q129 : (Jvm.Cond.initialized "FunDesk$Let") ∈ lw_all := lw_g (lw_at lw_m1 23 rfl) rfl
theorem q949 : (Jvm.Cond.instantiable "FunDesk$Scope" (3 : Nat)) ∈ lw_all := lw_g (lw_at lw_m4 123 rfl) rfl
theorem q130 : (Jvm.Cond.initialized "FunDesk$Scope") ∈ lw_all := lw_g (lw_at lw_m1 24 rfl) rfl
theorem q391 : (Jvm.Cond.instantiable "FunDesk$Whole" (1 : Nat)) ∈ lw_all := lw_g (lw_at lw_m2 45 rfl) rfl
theorem q134 : (Jvm.Cond.initialized "FunDesk$Whole") ∈ lw_all := lw_g (lw_at lw_m1 28 rfl) rfl
theorem q405 : (Jvm.Cond.instantiable "FunDesk$Broken" (1 : Nat)) ∈ lw_all := lw_g (lw_at lw_m2 59 rfl) rfl
theorem q135 : (Jvm.Cond.initialized "FunDesk$Broken") ∈ lw_all := lw_g (lw_at lw_m1 29 rfl) rfl
theorem q416 : (Jvm.Cond.instantiable "FunDesk$Built" (1 : Nat)) ∈ lw_all := lw_g (lw_at lw_m2 70 rfl) rfl
theorem q136 : (Jvm.Cond.initialized "FunDesk$Built") ∈ lw_all := lw_g (lw_at lw_m1 30 rfl) rfl
theorem q426 : (Jvm.Cond.instantiable "FunDesk$Closure" (2 : Nat)) ∈ lw_all := lw_g (lw_at lw_m2 80 rfl) rfl
theorem q137 : (Jvm.Cond.initialized "FunDesk$Closure") ∈ lw_all := lw_g (lw_at lw_m1 31 rfl) rfl
theorem q466 : (Jvm.Cond.instantiable "FunDesk$Env" (2 : Nat)) ∈ lw_all := lw_g (lw_at lw_m2 120 rfl) rfl
theorem q138 : (Jvm.Cond.initialized "FunDesk$Env") ∈ lw_all := lw_g (lw_at lw_m1 32 rfl) rfl
theorem q493 : (Jvm.Cond.instantiable "FunDesk$Cons" (2 : Nat)) ∈ lw_all := lw_g (lw_at lw_m2 147 rfl) rfl
theorem q139 : (Jvm.Cond.initialized "FunDesk$Cons") ∈ lw_all := lw_g (lw_at lw_m1 33 rfl) rfl
theorem q591 : (Jvm.Cond.instantiable "java/lang/IllegalArgumentException" (6 : Nat)) ∈ lw_all := lw_g (lw_at lw_m3 5 rfl) rfl
theorem q117 : (Jvm.Cond.initialized "java/lang/IllegalArgumentException") ∈ lw_all := lw_g (lw_at lw_m1 11 rfl) rfl
theorem q1001 : (Jvm.Cond.instantiable "java/util/NoSuchElementException" (6 : Nat)) ∈ lw_all := lw_g (lw_at lw_m4 175 rfl) rfl
theorem q131 : (Jvm.Cond.initialized "java/util/NoSuchElementException") ∈ lw_all := lw_g (lw_at lw_m1 25 rfl) rfl
theorem q1088 : (Jvm.Cond.instantiable "java/lang/UnsupportedOperationException" (6 : Nat)) ∈ lw_all := lw_g (lw_at lw_m5 22 rfl) rfl
theorem q132 : (Jvm.Cond.initialized "java/lang/UnsupportedOperationException") ∈ lw_all := lw_g (lw_at lw_m1 26 rfl) rfl
theorem q1347 : (Jvm.Cond.instantiable "java/lang/IllegalStateException" (6 : Nat)) ∈ lw_all := lw_g (lw_at lw_m6 41 rfl) rfl
theorem q140 : (Jvm.Cond.initialized "java/lang/IllegalStateException") ∈ lw_all := lw_g (lw_at lw_m1 34 rfl) rfl
theorem q1362 : (Jvm.Cond.instantiable "java/lang/IndexOutOfBoundsException" (6 : Nat)) ∈ lw_all := lw_g (lw_at lw_m6 56 rfl) rfl
theorem q141 : (Jvm.Cond.initialized "java/lang/IndexOutOfBoundsException") ∈ lw_all := lw_g (lw_at lw_m1 35 rfl) rfl
def am_clOk (ci : Nat) (q : vw_C) : Prop := (∀ w ∈ u_ws q.1 q.2.1 q.2.2, w ∈ lw_all) ∧ (∀ k, k < q.2.2 → parseFieldDescriptor (q.2.1 k).2.2.1 = some (am_fty ci k)) ∧ (∀ a, a < q.2.2 → ∀ b, b < q.2.2 → a ≠ b → (q.2.1 a).2.1 ≠ (q.2.1 b).2.1) ∧ Cond.instantiable q.1 q.2.2 ∈ lw_all ∧ Cond.initialized q.1 ∈ lw_all
theorem am_cl0 : am_clOk 0 (RX3, (fun _ => ("", "", "", false)), 0) := ⟨fun w h => absurd h (by simp [u_ws]), fun k h => absurd h (Nat.not_lt_zero k), fun a h => absurd h (Nat.not_lt_zero a), q190, q112⟩
theorem am_cl1 : am_clOk 1 (RX1, TX1, 40) := ⟨in_X1, tyX1_ok, nmX1, q143, q107⟩
theorem am_cl2 : am_clOk 2 (RX2, TX2, 6) := ⟨in_X2, tyX2_ok, nmX2, q151, q108⟩
theorem am_cl3 : am_clOk 3 (RX3, (fun _ => ("", "", "", false)), 0) := ⟨fun w h => absurd h (by simp [u_ws]), fun k h => absurd h (Nat.not_lt_zero k), fun a h => absurd h (Nat.not_lt_zero a), q190, q112⟩
theorem am_cl4 : am_clOk 4 (RX4, TX4, 72) := ⟨in_X4, tyX4_ok, nmX4, q1403, q113⟩
theorem am_cl5 : am_clOk 5 (RX5, TX5, 3) := ⟨in_X5, tyX5_ok, nmX5, q710, q118⟩
theorem am_cl6 : am_clOk 6 (RX6, TX6, 3) := ⟨in_X6, tyX6_ok, nmX6, q736, q120⟩
theorem am_cl7 : am_clOk 7 (RX7, TX7, 1) := ⟨in_X7, tyX7_ok, nmX7, q763, q121⟩
theorem am_cl8 : am_clOk 8 (RX8, TX8, 2) := ⟨in_X8, tyX8_ok, nmX8, q773, q122⟩
theorem am_cl9 : am_clOk 9 (RX9, TX9, 3) := ⟨in_X9, tyX9_ok, nmX9, q794, q123⟩
theorem am_cl10 : am_clOk 10 (RX10, TX10, 4) := ⟨in_X10, tyX10_ok, nmX10, q814, q124⟩
theorem am_cl11 : am_clOk 11 (RX11, TX11, 2) := ⟨in_X11, tyX11_ok, nmX11, q847, q125⟩
theorem am_cl12 : am_clOk 12 (RX12, TX12, 1) := ⟨in_X12, tyX12_ok, nmX12, q860, q126⟩
theorem am_cl13 : am_clOk 13 (RX13, TX13, 2) := ⟨in_X13, tyX13_ok, nmX13, q870, q127⟩
theorem am_cl14 : am_clOk 14 (RX14, TX14, 2) := ⟨in_X14, tyX14_ok, nmX14, q891, q128⟩
theorem am_cl15 : am_clOk 15 (RX15, TX15, 4) := ⟨in_X15, tyX15_ok, nmX15, q904, q129⟩
theorem am_cl16 : am_clOk 16 (RX16, TX16, 3) := ⟨in_X16, tyX16_ok, nmX16, q949, q130⟩
theorem am_cl17 : am_clOk 17 (RX17, TX17, 1) := ⟨in_X17, tyX17_ok, nmX17, q391, q134⟩
theorem am_cl18 : am_clOk 18 (RX18, TX18, 1) := ⟨in_X18, tyX18_ok, nmX18, q405, q135⟩
theorem am_cl19 : am_clOk 19 (RX19, TX19, 1) := ⟨in_X19, tyX19_ok, nmX19, q416, q136⟩
theorem am_cl20 : am_clOk 20 (RX20, TX20, 2) := ⟨in_X20, tyX20_ok, nmX20, q426, q137⟩
theorem am_cl21 : am_clOk 21 (RX21, TX21, 2) := ⟨in_X21, tyX21_ok, nmX21, q466, q138⟩
theorem am_cl22 : am_clOk 22 (RX22, TX22, 2) := ⟨in_X22, tyX22_ok, nmX22, q493, q139⟩
theorem am_cl23 : am_clOk 23 (RJ5, TJ5, 6) := ⟨in_J5, tyJ5_ok, nmJ5, q591, q117⟩
theorem am_cl24 : am_clOk 24 (RJ6, TJ6, 6) := ⟨in_J6, tyJ6_ok, nmJ6, q1001, q131⟩
theorem am_cl25 : am_clOk 25 (RJ7, TJ7, 6) := ⟨in_J7, tyJ7_ok, nmJ7, q1088, q132⟩
theorem am_cl26 : am_clOk 26 (RJ9, TJ9, 6) := ⟨in_J9, tyJ9_ok, nmJ9, q1347, q140⟩
theorem am_cl27 : am_clOk 27 (RJ10, TJ10, 6) := ⟨in_J10, tyJ10_ok, nmJ10, q1362, q141⟩
theorem am_clAll (ci : Nat) (q : vw_C) (h : am_cl[ci]? = some q) : am_clOk ci q := by
  match ci, h with
  | 0, h => cases h; exact am_cl0
  | 1, h => cases h; exact am_cl1
  | 2, h => cases h; exact am_cl2
  | 3, h => cases h; exact am_cl3
  | 4, h => cases h; exact am_cl4
  | 5, h => cases h; exact am_cl5
  | 6, h => cases h; exact am_cl6
  | 7, h => cases h; exact am_cl7
  | 8, h => cases h; exact am_cl8
  | 9, h => cases h; exact am_cl9
  | 10, h => cases h; exact am_cl10
  | 11, h => cases h; exact am_cl11
  | 12, h => cases h; exact am_cl12
  | 13, h => cases h; exact am_cl13
  | 14, h => cases h; exact am_cl14
  | 15, h => cases h; exact am_cl15
  | 16, h => cases h; exact am_cl16
  | 17, h => cases h; exact am_cl17
  | 18, h => cases h; exact am_cl18
  | 19, h => cases h; exact am_cl19
  | 20, h => cases h; exact am_cl20
  | 21, h => cases h; exact am_cl21
  | 22, h => cases h; exact am_cl22
  | 23, h => cases h; exact am_cl23
  | 24, h => cases h; exact am_cl24
  | 25, h => cases h; exact am_cl25
  | 26, h => cases h; exact am_cl26
  | 27, h => cases h; exact am_cl27
  | n + 28, h => simp [am_cl] at h
