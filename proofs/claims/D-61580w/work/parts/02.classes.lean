set_option maxRecDepth 100000
def RX0 : String := "TripleStoreLaw"
def RX1 : String := "TripleStore"
def RX2 : String := "TripleStoreModel"
def RX3 : String := "TripleStore$Triple"
def RX4 : String := "TripleStore$Term"
def RX5 : String := "TripleStore$Numeral"
def RX6 : String := "TripleStore$Word"
def RX7 : String := "TripleStore$Change"
def RX8 : String := "TripleStore$Commit"
def RX9 : String := "TripleStore$Reader"
def RX10 : String := "TripleStore$Query"
def RX11 : String := "TripleStore$Group"
def RX12 : String := "TripleStore$Element"
def RX13 : String := "TripleStore$Filter"
def RX14 : String := "TripleStore$Test"
def RX15 : String := "TripleStore$Not"
def RX16 : String := "TripleStore$Bound"
def RX17 : String := "TripleStore$Side"
def RX18 : String := "TripleStore$Comparison"
def RX19 : String := "TripleStore$Optional"
def RX20 : String := "TripleStore$Minus"
def RX21 : String := "TripleStore$Union"
def RX22 : String := "TripleStore$Pattern"
def RX23 : String := "TripleStore$Found"
def RX24 : String := "TripleStore$Solution"
def RX25 : String := "TripleStore$Row"
def RJ0 : String := "java/lang/AbstractStringBuilder"
def RJ1 : String := "java/lang/StringBuilder"
def RJ2 : String := "java/lang/String"
def RJ3 : String := "java/lang/StringUTF16"
def RJ4 : String := "java/lang/Throwable"
def RJ5 : String := "java/lang/Exception"
def RJ6 : String := "java/lang/RuntimeException"
def RJ7 : String := "java/lang/IllegalArgumentException"
def RJ8 : String := "jdk/internal/util/ArraysSupport"
def RJ9 : String := "java/lang/Math"
def RJ10 : String := "java/util/Arrays"
def RJ11 : String := "java/lang/StringLatin1"
def RJ12 : String := "jdk/internal/util/Preconditions"
def RJ13 : String := "java/lang/Integer"
def RJ14 : String := "java/lang/IllegalStateException"
def RJ15 : String := "java/util/NoSuchElementException"
def RJ16 : String := "java/lang/UnsupportedOperationException"
def RJ17 : String := "java/lang/Object"
def RJ18 : String := "java/lang/System$2"
def TX1 : u_T := fun k => match k with
  | 0 => ("TripleStore", "triples", "[LTripleStore$Triple;", true)
  | 1 => ("TripleStore", "count", "I", false)
  | 2 => ("TripleStore", "open", "Z", false)
  | 3 => ("TripleStore", "changes", "LTripleStore$Change;", false)
  | 4 => ("TripleStore", "changeCount", "I", false)
  | 5 => ("TripleStore", "oldest", "LTripleStore$Commit;", false)
  | 6 => ("TripleStore", "newest", "LTripleStore$Commit;", false)
  | 7 => ("TripleStore", "commits", "I", false)
  | 8 => ("TripleStore", "unsynced", "I", false)
  | 9 => ("TripleStore", "text", "Ljava/lang/StringBuilder;", true)
  | 10 => ("TripleStore", "fault", "I", false)
  | 11 => ("TripleStore", "rows", "[LTripleStore$Row;", false)
  | 12 => ("TripleStore", "rowCount", "I", false)
  | _ => ("TripleStore", "columns", "I", false)
def tyX1 : Nat → FieldType := fun k => match k with
  | 0 => .array (.object "TripleStore$Triple")
  | 1 => .int
  | 2 => .boolean
  | 3 => .object "TripleStore$Change"
  | 4 => .int
  | 5 => .object "TripleStore$Commit"
  | 6 => .object "TripleStore$Commit"
  | 7 => .int
  | 8 => .int
  | 9 => .object "java/lang/StringBuilder"
  | 10 => .int
  | 11 => .array (.object "TripleStore$Row")
  | 12 => .int
  | _ => .int
abbrev wsX10 : List Cond := u_ws RX1 TX1 14
theorem nmX1 : ∀ a, a < 14 → ∀ b, b < 14 → a ≠ b → (TX1 a).2.1 ≠ (TX1 b).2.1 := by decide +kernel
theorem tyX1_ok : ∀ k, k < 14 → parseFieldDescriptor (TX1 k).2.2.1 = some (tyX1 k) := by decide +kernel
theorem in_X1 : ∀ w ∈ wsX10, w ∈ lw_all := lw_in wsX10 [169, 171, 173, 175, 177, 179, 181, 183, 185, 187, 189, 191, 193, 195] (by decide +kernel) (by decide +kernel)
def TX2 : u_T := fun k => match k with
  | 0 => ("TripleStoreModel", "triple", "[J", true)
  | 1 => ("TripleStoreModel", "triples", "I", false)
  | 2 => ("TripleStoreModel", "kept", "[J", true)
  | 3 => ("TripleStoreModel", "keptCount", "I", false)
  | 4 => ("TripleStoreModel", "change", "[J", true)
  | 5 => ("TripleStoreModel", "put", "[Z", true)
  | 6 => ("TripleStoreModel", "of", "[I", true)
  | 7 => ("TripleStoreModel", "changes", "I", false)
  | 8 => ("TripleStoreModel", "committed", "I", false)
  | 9 => ("TripleStoreModel", "unsynced", "I", false)
  | 10 => ("TripleStoreModel", "open", "Z", false)
  | 11 => ("TripleStoreModel", "openFrom", "I", false)
  | 12 => ("TripleStoreModel", "text", "[I", true)
  | 13 => ("TripleStoreModel", "length", "I", false)
  | 14 => ("TripleStoreModel", "fault", "I", false)
  | 15 => ("TripleStoreModel", "kind", "I", false)
  | 16 => ("TripleStoreModel", "token", "J", false)
  | 17 => ("TripleStoreModel", "start", "I", false)
  | 18 => ("TripleStoreModel", "end", "I", false)
  | 19 => ("TripleStoreModel", "behind", "I", false)
  | 20 => ("TripleStoreModel", "wrong", "I", false)
  | 21 => ("TripleStoreModel", "starts", "Z", false)
  | 22 => ("TripleStoreModel", "holds", "Z", false)
  | 23 => ("TripleStoreModel", "name", "[J", true)
  | 24 => ("TripleStoreModel", "names", "I", false)
  | 25 => ("TripleStoreModel", "elements", "I", false)
  | 26 => ("TripleStoreModel", "groups", "I", false)
  | 27 => ("TripleStoreModel", "depth", "I", false)
  | 28 => ("TripleStoreModel", "groupKind", "[I", true)
  | 29 => ("TripleStoreModel", "groupId", "[I", true)
  | 30 => ("TripleStoreModel", "op", "[I", true)
  | 31 => ("TripleStoreModel", "arg", "[I", true)
  | 32 => ("TripleStoreModel", "ops", "I", false)
  | 33 => ("TripleStoreModel", "side", "[I", true)
  | 34 => ("TripleStoreModel", "term", "[J", true)
  | 35 => ("TripleStoreModel", "patterns", "I", false)
  | 36 => ("TripleStoreModel", "testGroup", "[I", true)
  | 37 => ("TripleStoreModel", "testSign", "[I", true)
  | 38 => ("TripleStoreModel", "testNot", "[Z", true)
  | 39 => ("TripleStoreModel", "tests", "I", false)
  | 40 => ("TripleStoreModel", "wanted", "[I", true)
  | 41 => ("TripleStoreModel", "wantedCount", "I", false)
  | 42 => ("TripleStoreModel", "beside", "[I", true)
  | 43 => ("TripleStoreModel", "distinct", "Z", false)
  | 44 => ("TripleStoreModel", "orderBy", "I", false)
  | 45 => ("TripleStoreModel", "falls", "Z", false)
  | 46 => ("TripleStoreModel", "limit", "I", false)
  | 47 => ("TripleStoreModel", "value", "[J", true)
  | 48 => ("TripleStoreModel", "given", "[I", true)
  | 49 => ("TripleStoreModel", "size", "[I", true)
  | 50 => ("TripleStoreModel", "top", "I", false)
  | 51 => ("TripleStoreModel", "tooMany", "Z", false)
  | 52 => ("TripleStoreModel", "row", "[J", true)
  | 53 => ("TripleStoreModel", "rowGiven", "[I", true)
  | 54 => ("TripleStoreModel", "rowAt", "[I", true)
  | 55 => ("TripleStoreModel", "rows", "I", false)
  | 56 => ("TripleStoreModel", "column", "[I", true)
  | 57 => ("TripleStoreModel", "columns", "I", false)
  | _ => ("TripleStoreModel", "code", "I", false)
def tyX2 : Nat → FieldType := fun k => match k with
  | 0 => .array .long
  | 1 => .int
  | 2 => .array .long
  | 3 => .int
  | 4 => .array .long
  | 5 => .array .boolean
  | 6 => .array .int
  | 7 => .int
  | 8 => .int
  | 9 => .int
  | 10 => .boolean
  | 11 => .int
  | 12 => .array .int
  | 13 => .int
  | 14 => .int
  | 15 => .int
  | 16 => .long
  | 17 => .int
  | 18 => .int
  | 19 => .int
  | 20 => .int
  | 21 => .boolean
  | 22 => .boolean
  | 23 => .array .long
  | 24 => .int
  | 25 => .int
  | 26 => .int
  | 27 => .int
  | 28 => .array .int
  | 29 => .array .int
  | 30 => .array .int
  | 31 => .array .int
  | 32 => .int
  | 33 => .array .int
  | 34 => .array .long
  | 35 => .int
  | 36 => .array .int
  | 37 => .array .int
  | 38 => .array .boolean
  | 39 => .int
  | 40 => .array .int
  | 41 => .int
  | 42 => .array .int
  | 43 => .boolean
  | 44 => .int
  | 45 => .boolean
  | 46 => .int
  | 47 => .array .long
  | 48 => .array .int
  | 49 => .array .int
  | 50 => .int
  | 51 => .boolean
  | 52 => .array .long
  | 53 => .array .int
  | 54 => .array .int
  | 55 => .int
  | 56 => .array .int
  | 57 => .int
  | _ => .int
abbrev wsX20 : List Cond := u_ws RX2 TX2 59
theorem nmX2 : ∀ a, a < 59 → ∀ b, b < 59 → a ≠ b → (TX2 a).2.1 ≠ (TX2 b).2.1 := by decide +kernel
theorem tyX2_ok : ∀ k, k < 59 → parseFieldDescriptor (TX2 k).2.2.1 = some (tyX2 k) := by decide +kernel
theorem in_X2 : ∀ w ∈ wsX20, w ∈ lw_all := lw_in wsX20 [1468, 1470, 1472, 1474, 1476, 1478, 1480, 1482, 1484, 1486, 1488, 1490, 1492, 1494, 1496, 1498, 1500, 1502, 1504, 1506, 1508, 1510, 1512, 1514, 1516, 1518, 1520, 1522, 1524, 1526, 1528, 1530, 1532, 1534, 1536, 1538, 1540, 1542, 1544, 1546, 1548, 1550, 1552, 1554, 1556, 1558, 1560, 1562, 1564, 1566, 1568, 1570, 1572, 1574, 1576, 1578, 1580, 1582, 1584] (by decide +kernel) (by decide +kernel)
def TX3 : u_T := fun k => match k with
  | _ => ("TripleStore$Triple", "terms", "[LTripleStore$Term;", true)
def tyX3 : Nat → FieldType := fun k => match k with
  | _ => .array (.object "TripleStore$Term")
abbrev wsX30 : List Cond := u_ws RX3 TX3 1
theorem nmX3 : ∀ a, a < 1 → ∀ b, b < 1 → a ≠ b → (TX3 a).2.1 ≠ (TX3 b).2.1 := by decide +kernel
theorem tyX3_ok : ∀ k, k < 1 → parseFieldDescriptor (TX3 k).2.2.1 = some (tyX3 k) := by decide +kernel
theorem in_X3 : ∀ w ∈ wsX30, w ∈ lw_all := lw_in wsX30 [569] (by decide +kernel) (by decide +kernel)
def TX5 : u_T := fun k => match k with
  | _ => ("TripleStore$Numeral", "value", "I", true)
def tyX5 : Nat → FieldType := fun k => match k with
  | _ => .int
abbrev wsX50 : List Cond := u_ws RX5 TX5 1
theorem nmX5 : ∀ a, a < 1 → ∀ b, b < 1 → a ≠ b → (TX5 a).2.1 ≠ (TX5 b).2.1 := by decide +kernel
theorem tyX5_ok : ∀ k, k < 1 → parseFieldDescriptor (TX5 k).2.2.1 = some (tyX5 k) := by decide +kernel
theorem in_X5 : ∀ w ∈ wsX50, w ∈ lw_all := lw_in wsX50 [299] (by decide +kernel) (by decide +kernel)
def TX6 : u_T := fun k => match k with
  | _ => ("TripleStore$Word", "letters", "Ljava/lang/String;", true)
def tyX6 : Nat → FieldType := fun k => match k with
  | _ => .object "java/lang/String"
abbrev wsX60 : List Cond := u_ws RX6 TX6 1
theorem nmX6 : ∀ a, a < 1 → ∀ b, b < 1 → a ≠ b → (TX6 a).2.1 ≠ (TX6 b).2.1 := by decide +kernel
theorem tyX6_ok : ∀ k, k < 1 → parseFieldDescriptor (TX6 k).2.2.1 = some (tyX6 k) := by decide +kernel
theorem in_X6 : ∀ w ∈ wsX60, w ∈ lw_all := lw_in wsX60 [557] (by decide +kernel) (by decide +kernel)
def TX7 : u_T := fun k => match k with
  | 0 => ("TripleStore$Change", "put", "Z", true)
  | 1 => ("TripleStore$Change", "triple", "LTripleStore$Triple;", true)
  | _ => ("TripleStore$Change", "before", "LTripleStore$Change;", true)
def tyX7 : Nat → FieldType := fun k => match k with
  | 0 => .boolean
  | 1 => .object "TripleStore$Triple"
  | _ => .object "TripleStore$Change"
abbrev wsX70 : List Cond := u_ws RX7 TX7 3
theorem nmX7 : ∀ a, a < 3 → ∀ b, b < 3 → a ≠ b → (TX7 a).2.1 ≠ (TX7 b).2.1 := by decide +kernel
theorem tyX7_ok : ∀ k, k < 3 → parseFieldDescriptor (TX7 k).2.2.1 = some (tyX7 k) := by decide +kernel
theorem in_X7 : ∀ w ∈ wsX70, w ∈ lw_all := lw_in wsX70 [634, 636, 638] (by decide +kernel) (by decide +kernel)
def TX8 : u_T := fun k => match k with
  | 0 => ("TripleStore$Commit", "last", "LTripleStore$Change;", true)
  | _ => ("TripleStore$Commit", "next", "LTripleStore$Commit;", false)
def tyX8 : Nat → FieldType := fun k => match k with
  | 0 => .object "TripleStore$Change"
  | _ => .object "TripleStore$Commit"
abbrev wsX80 : List Cond := u_ws RX8 TX8 2
theorem nmX8 : ∀ a, a < 2 → ∀ b, b < 2 → a ≠ b → (TX8 a).2.1 ≠ (TX8 b).2.1 := by decide +kernel
theorem tyX8_ok : ∀ k, k < 2 → parseFieldDescriptor (TX8 k).2.2.1 = some (tyX8 k) := by decide +kernel
theorem in_X8 : ∀ w ∈ wsX80, w ∈ lw_all := lw_in wsX80 [654, 656] (by decide +kernel) (by decide +kernel)
def TX9 : u_T := fun k => match k with
  | 0 => ("TripleStore$Reader", "home", "LTripleStore;", true)
  | 1 => ("TripleStore$Reader", "text", "Ljava/lang/String;", true)
  | 2 => ("TripleStore$Reader", "names", "[Ljava/lang/String;", true)
  | 3 => ("TripleStore$Reader", "nameCount", "I", false)
  | 4 => ("TripleStore$Reader", "kind", "I", false)
  | 5 => ("TripleStore$Reader", "word", "Ljava/lang/String;", false)
  | 6 => ("TripleStore$Reader", "place", "I", false)
  | 7 => ("TripleStore$Reader", "at", "I", false)
  | 8 => ("TripleStore$Reader", "end", "I", false)
  | 9 => ("TripleStore$Reader", "elements", "I", false)
  | _ => ("TripleStore$Reader", "deep", "I", false)
def tyX9 : Nat → FieldType := fun k => match k with
  | 0 => .object "TripleStore"
  | 1 => .object "java/lang/String"
  | 2 => .array (.object "java/lang/String")
  | 3 => .int
  | 4 => .int
  | 5 => .object "java/lang/String"
  | 6 => .int
  | 7 => .int
  | 8 => .int
  | 9 => .int
  | _ => .int
abbrev wsX90 : List Cond := u_ws RX9 TX9 11
theorem nmX9 : ∀ a, a < 11 → ∀ b, b < 11 → a ≠ b → (TX9 a).2.1 ≠ (TX9 b).2.1 := by decide +kernel
theorem tyX9_ok : ∀ k, k < 11 → parseFieldDescriptor (TX9 k).2.2.1 = some (tyX9 k) := by decide +kernel
theorem in_X9 : ∀ w ∈ wsX90, w ∈ lw_all := lw_in wsX90 [902, 904, 906, 908, 910, 912, 914, 916, 918, 920, 922] (by decide +kernel) (by decide +kernel)
def TX10 : u_T := fun k => match k with
  | 0 => ("TripleStore$Query", "distinct", "Z", false)
  | 1 => ("TripleStore$Query", "columns", "[I", true)
  | 2 => ("TripleStore$Query", "columnCount", "I", false)
  | 3 => ("TripleStore$Query", "group", "LTripleStore$Group;", false)
  | 4 => ("TripleStore$Query", "order", "I", false)
  | 5 => ("TripleStore$Query", "falling", "Z", false)
  | _ => ("TripleStore$Query", "limit", "I", false)
def tyX10 : Nat → FieldType := fun k => match k with
  | 0 => .boolean
  | 1 => .array .int
  | 2 => .int
  | 3 => .object "TripleStore$Group"
  | 4 => .int
  | 5 => .boolean
  | _ => .int
abbrev wsX100 : List Cond := u_ws RX10 TX10 7
theorem nmX10 : ∀ a, a < 7 → ∀ b, b < 7 → a ≠ b → (TX10 a).2.1 ≠ (TX10 b).2.1 := by decide +kernel
theorem tyX10_ok : ∀ k, k < 7 → parseFieldDescriptor (TX10 k).2.2.1 = some (tyX10 k) := by decide +kernel
theorem in_X10 : ∀ w ∈ wsX100, w ∈ lw_all := lw_in wsX100 [953, 955, 957, 959, 961, 963, 965] (by decide +kernel) (by decide +kernel)
def TX11 : u_T := fun k => match k with
  | 0 => ("TripleStore$Group", "first", "LTripleStore$Element;", false)
  | _ => ("TripleStore$Group", "last", "LTripleStore$Element;", false)
def tyX11 : Nat → FieldType := fun k => match k with
  | 0 => .object "TripleStore$Element"
  | _ => .object "TripleStore$Element"
abbrev wsX110 : List Cond := u_ws RX11 TX11 2
theorem nmX11 : ∀ a, a < 2 → ∀ b, b < 2 → a ≠ b → (TX11 a).2.1 ≠ (TX11 b).2.1 := by decide +kernel
theorem tyX11_ok : ∀ k, k < 2 → parseFieldDescriptor (TX11 k).2.2.1 = some (tyX11 k) := by decide +kernel
theorem in_X11 : ∀ w ∈ wsX110, w ∈ lw_all := lw_in wsX110 [999, 1001] (by decide +kernel) (by decide +kernel)
def TX13 : u_T := fun k => match k with
  | 0 => ("TripleStore$Element", "next", "LTripleStore$Element;", false)
  | _ => ("TripleStore$Filter", "test", "LTripleStore$Test;", true)
def tyX13 : Nat → FieldType := fun k => match k with
  | 0 => .object "TripleStore$Element"
  | _ => .object "TripleStore$Test"
abbrev wsX130 : List Cond := u_ws RX13 TX13 2
theorem nmX13 : ∀ a, a < 2 → ∀ b, b < 2 → a ≠ b → (TX13 a).2.1 ≠ (TX13 b).2.1 := by decide +kernel
theorem tyX13_ok : ∀ k, k < 2 → parseFieldDescriptor (TX13 k).2.2.1 = some (tyX13 k) := by decide +kernel
theorem in_X13 : ∀ w ∈ wsX130, w ∈ lw_all := lw_in wsX130 [1091, 1089] (by decide +kernel) (by decide +kernel)
def TX15 : u_T := fun k => match k with
  | _ => ("TripleStore$Not", "test", "LTripleStore$Test;", true)
def tyX15 : Nat → FieldType := fun k => match k with
  | _ => .object "TripleStore$Test"
abbrev wsX150 : List Cond := u_ws RX15 TX15 1
theorem nmX15 : ∀ a, a < 1 → ∀ b, b < 1 → a ≠ b → (TX15 a).2.1 ≠ (TX15 b).2.1 := by decide +kernel
theorem tyX15_ok : ∀ k, k < 1 → parseFieldDescriptor (TX15 k).2.2.1 = some (tyX15 k) := by decide +kernel
theorem in_X15 : ∀ w ∈ wsX150, w ∈ lw_all := lw_in wsX150 [1024] (by decide +kernel) (by decide +kernel)
def TX16 : u_T := fun k => match k with
  | _ => ("TripleStore$Bound", "variable", "I", true)
def tyX16 : Nat → FieldType := fun k => match k with
  | _ => .int
abbrev wsX160 : List Cond := u_ws RX16 TX16 1
theorem nmX16 : ∀ a, a < 1 → ∀ b, b < 1 → a ≠ b → (TX16 a).2.1 ≠ (TX16 b).2.1 := by decide +kernel
theorem tyX16_ok : ∀ k, k < 1 → parseFieldDescriptor (TX16 k).2.2.1 = some (tyX16 k) := by decide +kernel
theorem in_X16 : ∀ w ∈ wsX160, w ∈ lw_all := lw_in wsX160 [1034] (by decide +kernel) (by decide +kernel)
def TX17 : u_T := fun k => match k with
  | 0 => ("TripleStore$Side", "term", "LTripleStore$Term;", true)
  | _ => ("TripleStore$Side", "variable", "I", true)
def tyX17 : Nat → FieldType := fun k => match k with
  | 0 => .object "TripleStore$Term"
  | _ => .int
abbrev wsX170 : List Cond := u_ws RX17 TX17 2
theorem nmX17 : ∀ a, a < 2 → ∀ b, b < 2 → a ≠ b → (TX17 a).2.1 ≠ (TX17 b).2.1 := by decide +kernel
theorem tyX17_ok : ∀ k, k < 2 → parseFieldDescriptor (TX17 k).2.2.1 = some (tyX17 k) := by decide +kernel
theorem in_X17 : ∀ w ∈ wsX170, w ∈ lw_all := lw_in wsX170 [1051, 1053] (by decide +kernel) (by decide +kernel)
def TX18 : u_T := fun k => match k with
  | 0 => ("TripleStore$Comparison", "left", "LTripleStore$Side;", true)
  | 1 => ("TripleStore$Comparison", "sign", "C", true)
  | _ => ("TripleStore$Comparison", "right", "LTripleStore$Side;", true)
def tyX18 : Nat → FieldType := fun k => match k with
  | 0 => .object "TripleStore$Side"
  | 1 => .char
  | _ => .object "TripleStore$Side"
abbrev wsX180 : List Cond := u_ws RX18 TX18 3
theorem nmX18 : ∀ a, a < 3 → ∀ b, b < 3 → a ≠ b → (TX18 a).2.1 ≠ (TX18 b).2.1 := by decide +kernel
theorem tyX18_ok : ∀ k, k < 3 → parseFieldDescriptor (TX18 k).2.2.1 = some (tyX18 k) := by decide +kernel
theorem in_X18 : ∀ w ∈ wsX180, w ∈ lw_all := lw_in wsX180 [1073, 1075, 1077] (by decide +kernel) (by decide +kernel)
def TX19 : u_T := fun k => match k with
  | 0 => ("TripleStore$Element", "next", "LTripleStore$Element;", false)
  | _ => ("TripleStore$Optional", "group", "LTripleStore$Group;", true)
def tyX19 : Nat → FieldType := fun k => match k with
  | 0 => .object "TripleStore$Element"
  | _ => .object "TripleStore$Group"
abbrev wsX190 : List Cond := u_ws RX19 TX19 2
theorem nmX19 : ∀ a, a < 2 → ∀ b, b < 2 → a ≠ b → (TX19 a).2.1 ≠ (TX19 b).2.1 := by decide +kernel
theorem tyX19_ok : ∀ k, k < 2 → parseFieldDescriptor (TX19 k).2.2.1 = some (tyX19 k) := by decide +kernel
theorem in_X19 : ∀ w ∈ wsX190, w ∈ lw_all := lw_in wsX190 [1103, 1101] (by decide +kernel) (by decide +kernel)
def TX20 : u_T := fun k => match k with
  | 0 => ("TripleStore$Element", "next", "LTripleStore$Element;", false)
  | _ => ("TripleStore$Minus", "group", "LTripleStore$Group;", true)
def tyX20 : Nat → FieldType := fun k => match k with
  | 0 => .object "TripleStore$Element"
  | _ => .object "TripleStore$Group"
abbrev wsX200 : List Cond := u_ws RX20 TX20 2
theorem nmX20 : ∀ a, a < 2 → ∀ b, b < 2 → a ≠ b → (TX20 a).2.1 ≠ (TX20 b).2.1 := by decide +kernel
theorem tyX20_ok : ∀ k, k < 2 → parseFieldDescriptor (TX20 k).2.2.1 = some (tyX20 k) := by decide +kernel
theorem in_X20 : ∀ w ∈ wsX200, w ∈ lw_all := lw_in wsX200 [1114, 1112] (by decide +kernel) (by decide +kernel)
def TX21 : u_T := fun k => match k with
  | 0 => ("TripleStore$Element", "next", "LTripleStore$Element;", false)
  | 1 => ("TripleStore$Union", "groups", "[LTripleStore$Group;", true)
  | _ => ("TripleStore$Union", "count", "I", false)
def tyX21 : Nat → FieldType := fun k => match k with
  | 0 => .object "TripleStore$Element"
  | 1 => .array (.object "TripleStore$Group")
  | _ => .int
abbrev wsX210 : List Cond := u_ws RX21 TX21 3
theorem nmX21 : ∀ a, a < 3 → ∀ b, b < 3 → a ≠ b → (TX21 a).2.1 ≠ (TX21 b).2.1 := by decide +kernel
theorem tyX21_ok : ∀ k, k < 3 → parseFieldDescriptor (TX21 k).2.2.1 = some (tyX21 k) := by decide +kernel
theorem in_X21 : ∀ w ∈ wsX210, w ∈ lw_all := lw_in wsX210 [1131, 1127, 1129] (by decide +kernel) (by decide +kernel)
def TX22 : u_T := fun k => match k with
  | 0 => ("TripleStore$Element", "next", "LTripleStore$Element;", false)
  | _ => ("TripleStore$Pattern", "sides", "[LTripleStore$Side;", true)
def tyX22 : Nat → FieldType := fun k => match k with
  | 0 => .object "TripleStore$Element"
  | _ => .array (.object "TripleStore$Side")
abbrev wsX220 : List Cond := u_ws RX22 TX22 2
theorem nmX22 : ∀ a, a < 2 → ∀ b, b < 2 → a ≠ b → (TX22 a).2.1 ≠ (TX22 b).2.1 := by decide +kernel
theorem tyX22_ok : ∀ k, k < 2 → parseFieldDescriptor (TX22 k).2.2.1 = some (tyX22 k) := by decide +kernel
theorem in_X22 : ∀ w ∈ wsX220, w ∈ lw_all := lw_in wsX220 [1147, 1145] (by decide +kernel) (by decide +kernel)
def TX23 : u_T := fun k => match k with
  | 0 => ("TripleStore$Found", "all", "[LTripleStore$Solution;", true)
  | _ => ("TripleStore$Found", "count", "I", false)
def tyX23 : Nat → FieldType := fun k => match k with
  | 0 => .array (.object "TripleStore$Solution")
  | _ => .int
abbrev wsX230 : List Cond := u_ws RX23 TX23 2
theorem nmX23 : ∀ a, a < 2 → ∀ b, b < 2 → a ≠ b → (TX23 a).2.1 ≠ (TX23 b).2.1 := by decide +kernel
theorem tyX23_ok : ∀ k, k < 2 → parseFieldDescriptor (TX23 k).2.2.1 = some (tyX23 k) := by decide +kernel
theorem in_X23 : ∀ w ∈ wsX230, w ∈ lw_all := lw_in wsX230 [1181, 1183] (by decide +kernel) (by decide +kernel)
def TX24 : u_T := fun k => match k with
  | _ => ("TripleStore$Solution", "given", "[LTripleStore$Term;", true)
def tyX24 : Nat → FieldType := fun k => match k with
  | _ => .array (.object "TripleStore$Term")
abbrev wsX240 : List Cond := u_ws RX24 TX24 1
theorem nmX24 : ∀ a, a < 1 → ∀ b, b < 1 → a ≠ b → (TX24 a).2.1 ≠ (TX24 b).2.1 := by decide +kernel
theorem tyX24_ok : ∀ k, k < 1 → parseFieldDescriptor (TX24 k).2.2.1 = some (tyX24 k) := by decide +kernel
theorem in_X24 : ∀ w ∈ wsX240, w ∈ lw_all := lw_in wsX240 [1198] (by decide +kernel) (by decide +kernel)
def TX25 : u_T := fun k => match k with
  | 0 => ("TripleStore$Row", "order", "LTripleStore$Term;", true)
  | _ => ("TripleStore$Row", "cells", "[LTripleStore$Term;", true)
def tyX25 : Nat → FieldType := fun k => match k with
  | 0 => .object "TripleStore$Term"
  | _ => .array (.object "TripleStore$Term")
abbrev wsX250 : List Cond := u_ws RX25 TX25 2
theorem nmX25 : ∀ a, a < 2 → ∀ b, b < 2 → a ≠ b → (TX25 a).2.1 ≠ (TX25 b).2.1 := by decide +kernel
theorem tyX25_ok : ∀ k, k < 2 → parseFieldDescriptor (TX25 k).2.2.1 = some (tyX25 k) := by decide +kernel
theorem in_X25 : ∀ w ∈ wsX250, w ∈ lw_all := lw_in wsX250 [1323, 1325] (by decide +kernel) (by decide +kernel)
def TJ1 : u_T := fun k => match k with
  | 0 => ("java/lang/AbstractStringBuilder", "value", "[B", false)
  | 1 => ("java/lang/AbstractStringBuilder", "coder", "B", false)
  | 2 => ("java/lang/AbstractStringBuilder", "maybeLatin1", "Z", false)
  | _ => ("java/lang/AbstractStringBuilder", "count", "I", false)
def tyJ1 : Nat → FieldType := fun k => match k with
  | 0 => .array .byte
  | 1 => .byte
  | 2 => .boolean
  | _ => .int
abbrev wsJ10 : List Cond := u_ws RJ1 TJ1 4
theorem nmJ1 : ∀ a, a < 4 → ∀ b, b < 4 → a ≠ b → (TJ1 a).2.1 ≠ (TJ1 b).2.1 := by decide +kernel
theorem tyJ1_ok : ∀ k, k < 4 → parseFieldDescriptor (TJ1 k).2.2.1 = some (tyJ1 k) := by decide +kernel
theorem in_J1 : ∀ w ∈ wsJ10, w ∈ lw_all := lw_in wsJ10 [140, 142, 144, 146] (by decide +kernel) (by decide +kernel)
def TJ2 : u_T := fun k => match k with
  | 0 => ("java/lang/String", "value", "[B", true)
  | 1 => ("java/lang/String", "coder", "B", true)
  | 2 => ("java/lang/String", "hash", "I", false)
  | _ => ("java/lang/String", "hashIsZero", "Z", false)
def tyJ2 : Nat → FieldType := fun k => match k with
  | 0 => .array .byte
  | 1 => .byte
  | 2 => .int
  | _ => .boolean
abbrev wsJ20 : List Cond := u_ws RJ2 TJ2 4
theorem nmJ2 : ∀ a, a < 4 → ∀ b, b < 4 → a ≠ b → (TJ2 a).2.1 ≠ (TJ2 b).2.1 := by decide +kernel
theorem tyJ2_ok : ∀ k, k < 4 → parseFieldDescriptor (TJ2 k).2.2.1 = some (tyJ2 k) := by decide +kernel
theorem in_J2 : ∀ w ∈ wsJ20, w ∈ lw_all := lw_in wsJ20 [543, 545, 547, 549] (by decide +kernel) (by decide +kernel)
def TJ7 : u_T := fun k => match k with
  | 0 => ("java/lang/Throwable", "cause", "Ljava/lang/Throwable;", false)
  | 1 => ("java/lang/Throwable", "stackTrace", "[Ljava/lang/StackTraceElement;", false)
  | 2 => ("java/lang/Throwable", "suppressedExceptions", "Ljava/util/List;", false)
  | 3 => ("java/lang/Throwable", "detailMessage", "Ljava/lang/String;", false)
  | 4 => ("java/lang/Throwable", "backtrace", "Ljava/lang/Object;", false)
  | _ => ("java/lang/Throwable", "depth", "I", false)
def tyJ7 : Nat → FieldType := fun k => match k with
  | 0 => .object "java/lang/Throwable"
  | 1 => .array (.object "java/lang/StackTraceElement")
  | 2 => .object "java/util/List"
  | 3 => .object "java/lang/String"
  | 4 => .object "java/lang/Object"
  | _ => .int
abbrev wsJ70 : List Cond := u_ws RJ7 TJ7 6
theorem nmJ7 : ∀ a, a < 6 → ∀ b, b < 6 → a ≠ b → (TJ7 a).2.1 ≠ (TJ7 b).2.1 := by decide +kernel
theorem tyJ7_ok : ∀ k, k < 6 → parseFieldDescriptor (TJ7 k).2.2.1 = some (tyJ7 k) := by decide +kernel
theorem in_J7 : ∀ w ∈ wsJ70, w ∈ lw_all := lw_in wsJ70 [234, 236, 238, 240, 242, 284] (by decide +kernel) (by decide +kernel)
def TJ14 : u_T := fun k => match k with
  | 0 => ("java/lang/Throwable", "cause", "Ljava/lang/Throwable;", false)
  | 1 => ("java/lang/Throwable", "stackTrace", "[Ljava/lang/StackTraceElement;", false)
  | 2 => ("java/lang/Throwable", "suppressedExceptions", "Ljava/util/List;", false)
  | 3 => ("java/lang/Throwable", "detailMessage", "Ljava/lang/String;", false)
  | 4 => ("java/lang/Throwable", "backtrace", "Ljava/lang/Object;", false)
  | _ => ("java/lang/Throwable", "depth", "I", false)
def tyJ14 : Nat → FieldType := fun k => match k with
  | 0 => .object "java/lang/Throwable"
  | 1 => .array (.object "java/lang/StackTraceElement")
  | 2 => .object "java/util/List"
  | 3 => .object "java/lang/String"
  | 4 => .object "java/lang/Object"
  | _ => .int
abbrev wsJ140 : List Cond := u_ws RJ14 TJ14 6
theorem nmJ14 : ∀ a, a < 6 → ∀ b, b < 6 → a ≠ b → (TJ14 a).2.1 ≠ (TJ14 b).2.1 := by decide +kernel
theorem tyJ14_ok : ∀ k, k < 6 → parseFieldDescriptor (TJ14 k).2.2.1 = some (tyJ14 k) := by decide +kernel
theorem in_J14 : ∀ w ∈ wsJ140, w ∈ lw_all := lw_in wsJ140 [603, 604, 605, 606, 607, 612] (by decide +kernel) (by decide +kernel)
def TJ15 : u_T := fun k => match k with
  | 0 => ("java/lang/Throwable", "cause", "Ljava/lang/Throwable;", false)
  | 1 => ("java/lang/Throwable", "stackTrace", "[Ljava/lang/StackTraceElement;", false)
  | 2 => ("java/lang/Throwable", "suppressedExceptions", "Ljava/util/List;", false)
  | 3 => ("java/lang/Throwable", "detailMessage", "Ljava/lang/String;", false)
  | 4 => ("java/lang/Throwable", "backtrace", "Ljava/lang/Object;", false)
  | _ => ("java/lang/Throwable", "depth", "I", false)
def tyJ15 : Nat → FieldType := fun k => match k with
  | 0 => .object "java/lang/Throwable"
  | 1 => .array (.object "java/lang/StackTraceElement")
  | 2 => .object "java/util/List"
  | 3 => .object "java/lang/String"
  | 4 => .object "java/lang/Object"
  | _ => .int
abbrev wsJ150 : List Cond := u_ws RJ15 TJ15 6
theorem nmJ15 : ∀ a, a < 6 → ∀ b, b < 6 → a ≠ b → (TJ15 a).2.1 ≠ (TJ15 b).2.1 := by decide +kernel
theorem tyJ15_ok : ∀ k, k < 6 → parseFieldDescriptor (TJ15 k).2.2.1 = some (tyJ15 k) := by decide +kernel
theorem in_J15 : ∀ w ∈ wsJ150, w ∈ lw_all := lw_in wsJ150 [1360, 1361, 1362, 1363, 1364, 1369] (by decide +kernel) (by decide +kernel)
def TJ16 : u_T := fun k => match k with
  | 0 => ("java/lang/Throwable", "cause", "Ljava/lang/Throwable;", false)
  | 1 => ("java/lang/Throwable", "stackTrace", "[Ljava/lang/StackTraceElement;", false)
  | 2 => ("java/lang/Throwable", "suppressedExceptions", "Ljava/util/List;", false)
  | 3 => ("java/lang/Throwable", "detailMessage", "Ljava/lang/String;", false)
  | 4 => ("java/lang/Throwable", "backtrace", "Ljava/lang/Object;", false)
  | _ => ("java/lang/Throwable", "depth", "I", false)
def tyJ16 : Nat → FieldType := fun k => match k with
  | 0 => .object "java/lang/Throwable"
  | 1 => .array (.object "java/lang/StackTraceElement")
  | 2 => .object "java/util/List"
  | 3 => .object "java/lang/String"
  | 4 => .object "java/lang/Object"
  | _ => .int
abbrev wsJ160 : List Cond := u_ws RJ16 TJ16 6
theorem nmJ16 : ∀ a, a < 6 → ∀ b, b < 6 → a ≠ b → (TJ16 a).2.1 ≠ (TJ16 b).2.1 := by decide +kernel
theorem tyJ16_ok : ∀ k, k < 6 → parseFieldDescriptor (TJ16 k).2.2.1 = some (tyJ16 k) := by decide +kernel
theorem in_J16 : ∀ w ∈ wsJ160, w ∈ lw_all := lw_in wsJ160 [1375, 1376, 1377, 1378, 1379, 1384] (by decide +kernel) (by decide +kernel)
/-- the classes whose objects are met, by their numbers -/
abbrev vwCl : List vw_C := [(RX1, TX1, 14), (RX2, TX2, 59), (RX3, TX3, 1), (RX5, TX5, 1), (RX6, TX6, 1), (RX7, TX7, 3), (RX8, TX8, 2), (RX9, TX9, 11), (RX10, TX10, 7), (RX11, TX11, 2), (RX13, TX13, 2), (RX15, TX15, 1), (RX16, TX16, 1), (RX17, TX17, 2), (RX18, TX18, 3), (RX19, TX19, 2), (RX20, TX20, 2), (RX21, TX21, 3), (RX22, TX22, 2), (RX23, TX23, 2), (RX24, TX24, 1), (RX25, TX25, 2), (RJ1, TJ1, 4), (RJ2, TJ2, 4), (RJ7, TJ7, 0), (RJ14, TJ14, 0), (RJ15, TJ15, 0), (RJ16, TJ16, 0)]
theorem cl_in {ci : Nat} {r : vw_C} (h : vwCl[ci]? = some r) : ∀ w ∈ u_ws r.1 r.2.1 r.2.2, w ∈ lw_all := by
  match ci, h with
  | 0, h => cases h; exact in_X1
  | 1, h => cases h; exact in_X2
  | 2, h => cases h; exact in_X3
  | 3, h => cases h; exact in_X5
  | 4, h => cases h; exact in_X6
  | 5, h => cases h; exact in_X7
  | 6, h => cases h; exact in_X8
  | 7, h => cases h; exact in_X9
  | 8, h => cases h; exact in_X10
  | 9, h => cases h; exact in_X11
  | 10, h => cases h; exact in_X13
  | 11, h => cases h; exact in_X15
  | 12, h => cases h; exact in_X16
  | 13, h => cases h; exact in_X17
  | 14, h => cases h; exact in_X18
  | 15, h => cases h; exact in_X19
  | 16, h => cases h; exact in_X20
  | 17, h => cases h; exact in_X21
  | 18, h => cases h; exact in_X22
  | 19, h => cases h; exact in_X23
  | 20, h => cases h; exact in_X24
  | 21, h => cases h; exact in_X25
  | 22, h => cases h; exact in_J1
  | 23, h => cases h; exact in_J2
  | 24, h => cases h; exact fun w h => absurd h List.not_mem_nil
  | 25, h => cases h; exact fun w h => absurd h List.not_mem_nil
  | 26, h => cases h; exact fun w h => absurd h List.not_mem_nil
  | 27, h => cases h; exact fun w h => absurd h List.not_mem_nil
  | n + 28, h => simp [vwCl] at h
theorem cl_nm {ci : Nat} {r : vw_C} (h : vwCl[ci]? = some r) : ∀ a, a < r.2.2 → ∀ b, b < r.2.2 → a ≠ b → (r.2.1 a).2.1 ≠ (r.2.1 b).2.1 := by
  match ci, h with
  | 0, h => cases h; exact nmX1
  | 1, h => cases h; exact nmX2
  | 2, h => cases h; exact nmX3
  | 3, h => cases h; exact nmX5
  | 4, h => cases h; exact nmX6
  | 5, h => cases h; exact nmX7
  | 6, h => cases h; exact nmX8
  | 7, h => cases h; exact nmX9
  | 8, h => cases h; exact nmX10
  | 9, h => cases h; exact nmX11
  | 10, h => cases h; exact nmX13
  | 11, h => cases h; exact nmX15
  | 12, h => cases h; exact nmX16
  | 13, h => cases h; exact nmX17
  | 14, h => cases h; exact nmX18
  | 15, h => cases h; exact nmX19
  | 16, h => cases h; exact nmX20
  | 17, h => cases h; exact nmX21
  | 18, h => cases h; exact nmX22
  | 19, h => cases h; exact nmX23
  | 20, h => cases h; exact nmX24
  | 21, h => cases h; exact nmX25
  | 22, h => cases h; exact nmJ1
  | 23, h => cases h; exact nmJ2
  | 24, h => cases h; exact fun a ha => absurd ha (Nat.not_lt_zero a)
  | 25, h => cases h; exact fun a ha => absurd ha (Nat.not_lt_zero a)
  | 26, h => cases h; exact fun a ha => absurd ha (Nat.not_lt_zero a)
  | 27, h => cases h; exact fun a ha => absurd ha (Nat.not_lt_zero a)
  | n + 28, h => simp [vwCl] at h
theorem cl_ty {ci : Nat} {r : vw_C} (h : vwCl[ci]? = some r) : ∃ ty : Nat → FieldType, ∀ k, k < r.2.2 → parseFieldDescriptor (r.2.1 k).2.2.1 = some (ty k) := by
  match ci, h with
  | 0, h => cases h; exact ⟨tyX1, tyX1_ok⟩
  | 1, h => cases h; exact ⟨tyX2, tyX2_ok⟩
  | 2, h => cases h; exact ⟨tyX3, tyX3_ok⟩
  | 3, h => cases h; exact ⟨tyX5, tyX5_ok⟩
  | 4, h => cases h; exact ⟨tyX6, tyX6_ok⟩
  | 5, h => cases h; exact ⟨tyX7, tyX7_ok⟩
  | 6, h => cases h; exact ⟨tyX8, tyX8_ok⟩
  | 7, h => cases h; exact ⟨tyX9, tyX9_ok⟩
  | 8, h => cases h; exact ⟨tyX10, tyX10_ok⟩
  | 9, h => cases h; exact ⟨tyX11, tyX11_ok⟩
  | 10, h => cases h; exact ⟨tyX13, tyX13_ok⟩
  | 11, h => cases h; exact ⟨tyX15, tyX15_ok⟩
  | 12, h => cases h; exact ⟨tyX16, tyX16_ok⟩
  | 13, h => cases h; exact ⟨tyX17, tyX17_ok⟩
  | 14, h => cases h; exact ⟨tyX18, tyX18_ok⟩
  | 15, h => cases h; exact ⟨tyX19, tyX19_ok⟩
  | 16, h => cases h; exact ⟨tyX20, tyX20_ok⟩
  | 17, h => cases h; exact ⟨tyX21, tyX21_ok⟩
  | 18, h => cases h; exact ⟨tyX22, tyX22_ok⟩
  | 19, h => cases h; exact ⟨tyX23, tyX23_ok⟩
  | 20, h => cases h; exact ⟨tyX24, tyX24_ok⟩
  | 21, h => cases h; exact ⟨tyX25, tyX25_ok⟩
  | 22, h => cases h; exact ⟨tyJ1, tyJ1_ok⟩
  | 23, h => cases h; exact ⟨tyJ2, tyJ2_ok⟩
  | 24, h => cases h; exact ⟨tyJ7, fun k hk => absurd hk (Nat.not_lt_zero k)⟩
  | 25, h => cases h; exact ⟨tyJ14, fun k hk => absurd hk (Nat.not_lt_zero k)⟩
  | 26, h => cases h; exact ⟨tyJ15, fun k hk => absurd hk (Nat.not_lt_zero k)⟩
  | 27, h => cases h; exact ⟨tyJ16, fun k hk => absurd hk (Nat.not_lt_zero k)⟩
  | n + 28, h => simp [vwCl] at h
