/-! CLASS TABLES AND WORDS, by tools/genwords.py out of claim/names -/
set_option maxRecDepth 100000
def RX0 : String := "ArmsHouse"
def TX0 : u_T := fun k => match k with
  | 0 => ("ArmsHouse", "words", "[Ljava/lang/String;", true)
  | 1 => ("ArmsHouse", "reading", "[LArmsHouse$Layer;", true)
  | 2 => ("ArmsHouse", "out", "[I", true)
  | 3 => ("ArmsHouse", "outs", "I", false)
  | 4 => ("ArmsHouse", "breachAt", "[I", true)
  | 5 => ("ArmsHouse", "breachCount", "I", false)
  | 6 => ("ArmsHouse", "dots", "[I", true)
  | 7 => ("ArmsHouse", "inside", "[Z", true)
  | 8 => ("ArmsHouse", "struck", "[Z", true)
  | 9 => ("ArmsHouse", "taken", "[I", true)
  | 10 => ("ArmsHouse", "sizes", "[I", true)
  | 11 => ("ArmsHouse", "xs", "[I", true)
  | 12 => ("ArmsHouse", "ys", "[I", true)
  | 13 => ("ArmsHouse", "drawn", "LArmsHouse$Arms;", false)
  | 14 => ("ArmsHouse", "tries", "I", false)
  | 15 => ("ArmsHouse", "text", "LArmsHouse$Text;", true)
  | 16 => ("ArmsHouse", "tape", "[I", true)
  | 17 => ("ArmsHouse", "taped", "I", false)
  | 18 => ("ArmsHouse", "fault", "I", false)
  | 19 => ("ArmsHouse", "arms", "[LArmsHouse$Arms;", true)
  | 20 => ("ArmsHouse", "armsCount", "I", false)
  | 21 => ("ArmsHouse", "persons", "[LArmsHouse$Person;", true)
  | 22 => ("ArmsHouse", "personCount", "I", false)
  | 23 => ("ArmsHouse", "quarters", "[I", true)
  | 24 => ("ArmsHouse", "quarterCount", "[I", true)
  | 25 => ("ArmsHouse", "clashing", "I", false)
  | 26 => ("ArmsHouse", "entered", "[LArmsHouse$Arms;", true)
  | 27 => ("ArmsHouse", "from", "[I", true)
  | 28 => ("ArmsHouse", "till", "[I", true)
  | 29 => ("ArmsHouse", "entries", "I", false)
  | 30 => ("ArmsHouse", "conflicting", "I", false)
  | 31 => ("ArmsHouse", "failure", "LArmsHouse$Failure;", true)
  | 32 => ("ArmsHouse", "failedKind", "I", false)
  | 33 => ("ArmsHouse", "failedPlace", "I", false)
  | 34 => ("ArmsHouse", "parts", "I", false)
  | 35 => ("ArmsHouse", "clauses", "[LArmsHouse$Node;", true)
  | 36 => ("ArmsHouse", "clauseAt", "[I", true)
  | 37 => ("ArmsHouse", "clauseCount", "I", false)
  | 38 => ("ArmsHouse", "value", "J", false)
  | 39 => ("ArmsHouse", "working", "I", false)
  | 40 => ("ArmsHouse", "worked", "J", false)
  | 41 => ("ArmsHouse", "askedAt", "I", false)
  | 42 => ("ArmsHouse", "alone", "LArmsHouse$Arms;", true)
  | 43 => ("ArmsHouse", "withOrdinary", "LArmsHouse$Arms;", true)
  | 44 => ("ArmsHouse", "clean", "[I", true)
  | 45 => ("ArmsHouse", "cleanCount", "I", false)
  | _ => ("ArmsHouse", "least", "I", false)
def tyX0 : Nat → FieldType := fun k => match k with
  | 0 => .array (.object "java/lang/String")
  | 1 => .array (.object "ArmsHouse$Layer")
  | 2 => .array .int
  | 3 => .int
  | 4 => .array .int
  | 5 => .int
  | 6 => .array .int
  | 7 => .array .boolean
  | 8 => .array .boolean
  | 9 => .array .int
  | 10 => .array .int
  | 11 => .array .int
  | 12 => .array .int
  | 13 => .object "ArmsHouse$Arms"
  | 14 => .int
  | 15 => .object "ArmsHouse$Text"
  | 16 => .array .int
  | 17 => .int
  | 18 => .int
  | 19 => .array (.object "ArmsHouse$Arms")
  | 20 => .int
  | 21 => .array (.object "ArmsHouse$Person")
  | 22 => .int
  | 23 => .array .int
  | 24 => .array .int
  | 25 => .int
  | 26 => .array (.object "ArmsHouse$Arms")
  | 27 => .array .int
  | 28 => .array .int
  | 29 => .int
  | 30 => .int
  | 31 => .object "ArmsHouse$Failure"
  | 32 => .int
  | 33 => .int
  | 34 => .int
  | 35 => .array (.object "ArmsHouse$Node")
  | 36 => .array .int
  | 37 => .int
  | 38 => .long
  | 39 => .int
  | 40 => .long
  | 41 => .int
  | 42 => .object "ArmsHouse$Arms"
  | 43 => .object "ArmsHouse$Arms"
  | 44 => .array .int
  | 45 => .int
  | _ => .int
abbrev wsX00 : List Cond := u_ws RX0 TX0 47
theorem nmX0 : ∀ a, a < 47 → ∀ b, b < 47 → a ≠ b → (TX0 a).2.1 ≠ (TX0 b).2.1 := by decide +kernel
theorem tyX0_ok : ∀ k, k < 47 → parseFieldDescriptor (TX0 k).2.2.1 = some (tyX0 k) := by decide +kernel
theorem in_X0 : ∀ w ∈ wsX00, w ∈ lw_all := lw_in wsX00 [591, 593, 595, 597, 599, 601, 603, 605, 607, 609, 611, 613, 615, 617, 619, 621, 623, 625, 627, 629, 631, 633, 635, 637, 639, 641, 643, 645, 647, 649, 651, 653, 655, 657, 659, 661, 663, 665, 667, 669, 671, 673, 675, 677, 679, 681, 683] (by decide +kernel) (by decide +kernel)
def RX1 : String := "ArmsHouse$Text"
def TX1 : u_T := fun k => match k with
  | 0 => ("ArmsHouse$Text", "bytes", "[I", true)
  | 1 => ("ArmsHouse$Text", "kind", "[I", true)
  | 2 => ("ArmsHouse$Text", "at", "[I", true)
  | 3 => ("ArmsHouse$Text", "value", "[I", true)
  | 4 => ("ArmsHouse$Text", "size", "I", false)
  | 5 => ("ArmsHouse$Text", "pos", "I", false)
  | 6 => ("ArmsHouse$Text", "fault", "I", false)
  | 7 => ("ArmsHouse$Text", "place", "I", false)
  | 8 => ("ArmsHouse$Text", "tokens", "I", false)
  | _ => ("ArmsHouse$Text", "this$0", "LArmsHouse;", true)
def tyX1 : Nat → FieldType := fun k => match k with
  | 0 => .array .int
  | 1 => .array .int
  | 2 => .array .int
  | 3 => .array .int
  | 4 => .int
  | 5 => .int
  | 6 => .int
  | 7 => .int
  | 8 => .int
  | _ => .object "ArmsHouse"
abbrev wsX10 : List Cond := u_ws RX1 TX1 10
theorem nmX1 : ∀ a, a < 10 → ∀ b, b < 10 → a ≠ b → (TX1 a).2.1 ≠ (TX1 b).2.1 := by decide +kernel
theorem tyX1_ok : ∀ k, k < 10 → parseFieldDescriptor (TX1 k).2.2.1 = some (tyX1 k) := by decide +kernel
theorem in_X1 : ∀ w ∈ wsX10, w ∈ lw_all := lw_in wsX10 [281, 283, 285, 287, 289, 291, 293, 295, 297, 299] (by decide +kernel) (by decide +kernel)
def RX3 : String := "ArmsHouse$Arms"
def TX3 : u_T := fun k => match k with
  | 0 => ("ArmsHouse$Arms", "field", "LArmsHouse$Field;", true)
  | _ => ("ArmsHouse$Arms", "layers", "[LArmsHouse$Layer;", true)
def tyX3 : Nat → FieldType := fun k => match k with
  | 0 => .object "ArmsHouse$Field"
  | _ => .array (.object "ArmsHouse$Layer")
abbrev wsX30 : List Cond := u_ws RX3 TX3 2
theorem nmX3 : ∀ a, a < 2 → ∀ b, b < 2 → a ≠ b → (TX3 a).2.1 ≠ (TX3 b).2.1 := by decide +kernel
theorem tyX3_ok : ∀ k, k < 2 → parseFieldDescriptor (TX3 k).2.2.1 = some (tyX3 k) := by decide +kernel
theorem in_X3 : ∀ w ∈ wsX30, w ∈ lw_all := lw_in wsX30 [448, 450] (by decide +kernel) (by decide +kernel)
def RX4 : String := "ArmsHouse$Field"
def TX4 : u_T := fun k => match k with
  | 0 => ("ArmsHouse$Field", "sort", "I", false)
  | 1 => ("ArmsHouse$Field", "line", "I", false)
  | 2 => ("ArmsHouse$Field", "number", "I", false)
  | 3 => ("ArmsHouse$Field", "first", "I", false)
  | 4 => ("ArmsHouse$Field", "second", "I", false)
  | _ => ("ArmsHouse$Field", "told", "LArmsHouse$Whole;", true)
def tyX4 : Nat → FieldType := fun k => match k with
  | 0 => .int
  | 1 => .int
  | 2 => .int
  | 3 => .int
  | 4 => .int
  | _ => .object "ArmsHouse$Whole"
abbrev wsX40 : List Cond := u_ws RX4 TX4 6
theorem nmX4 : ∀ a, a < 6 → ∀ b, b < 6 → a ≠ b → (TX4 a).2.1 ≠ (TX4 b).2.1 := by decide +kernel
theorem tyX4_ok : ∀ k, k < 6 → parseFieldDescriptor (TX4 k).2.2.1 = some (tyX4 k) := by decide +kernel
theorem in_X4 : ∀ w ∈ wsX40, w ∈ lw_all := lw_in wsX40 [423, 425, 427, 429, 431, 433] (by decide +kernel) (by decide +kernel)
def RX5 : String := "ArmsHouse$Whole"
def TX5 : u_T := fun k => match k with
  | _ => ("ArmsHouse$Whole", "value", "J", false)
def tyX5 : Nat → FieldType := fun k => match k with
  | _ => .long
abbrev wsX50 : List Cond := u_ws RX5 TX5 1
theorem nmX5 : ∀ a, a < 1 → ∀ b, b < 1 → a ≠ b → (TX5 a).2.1 ≠ (TX5 b).2.1 := by decide +kernel
theorem tyX5_ok : ∀ k, k < 1 → parseFieldDescriptor (TX5 k).2.2.1 = some (tyX5 k) := by decide +kernel
theorem in_X5 : ∀ w ∈ wsX50, w ∈ lw_all := lw_in wsX50 [407] (by decide +kernel) (by decide +kernel)
def RX6 : String := "ArmsHouse$Layer"
def TX6 : u_T := fun k => match k with
  | 0 => ("ArmsHouse$Layer", "overall", "Z", false)
  | 1 => ("ArmsHouse$Layer", "ordinary", "LArmsHouse$Ordinary;", false)
  | 2 => ("ArmsHouse$Layer", "group", "LArmsHouse$Group;", false)
  | 3 => ("ArmsHouse$Layer", "how", "I", false)
  | _ => ("ArmsHouse$Layer", "part", "I", false)
def tyX6 : Nat → FieldType := fun k => match k with
  | 0 => .boolean
  | 1 => .object "ArmsHouse$Ordinary"
  | 2 => .object "ArmsHouse$Group"
  | 3 => .int
  | _ => .int
abbrev wsX60 : List Cond := u_ws RX6 TX6 5
theorem nmX6 : ∀ a, a < 5 → ∀ b, b < 5 → a ≠ b → (TX6 a).2.1 ≠ (TX6 b).2.1 := by decide +kernel
theorem tyX6_ok : ∀ k, k < 5 → parseFieldDescriptor (TX6 k).2.2.1 = some (tyX6 k) := by decide +kernel
theorem in_X6 : ∀ w ∈ wsX60, w ∈ lw_all := lw_in wsX60 [476, 478, 480, 482, 484] (by decide +kernel) (by decide +kernel)
def RX7 : String := "ArmsHouse$Ordinary"
def TX7 : u_T := fun k => match k with
  | 0 => ("ArmsHouse$Ordinary", "ordinary", "I", false)
  | 1 => ("ArmsHouse$Ordinary", "line", "I", true)
  | 2 => ("ArmsHouse$Ordinary", "tincture", "I", false)
  | _ => ("ArmsHouse$Ordinary", "told", "LArmsHouse$Whole;", true)
def tyX7 : Nat → FieldType := fun k => match k with
  | 0 => .int
  | 1 => .int
  | 2 => .int
  | _ => .object "ArmsHouse$Whole"
abbrev wsX70 : List Cond := u_ws RX7 TX7 4
theorem nmX7 : ∀ a, a < 4 → ∀ b, b < 4 → a ≠ b → (TX7 a).2.1 ≠ (TX7 b).2.1 := by decide +kernel
theorem tyX7_ok : ∀ k, k < 4 → parseFieldDescriptor (TX7 k).2.2.1 = some (tyX7 k) := by decide +kernel
theorem in_X7 : ∀ w ∈ wsX70, w ∈ lw_all := lw_in wsX70 [506, 508, 510, 512] (by decide +kernel) (by decide +kernel)
def RX8 : String := "ArmsHouseModel"
def TX8 : u_T := fun k => match k with
  | 0 => ("ArmsHouseModel", "arms", "[I", true)
  | 1 => ("ArmsHouseModel", "many", "I", false)
  | 2 => ("ArmsHouseModel", "tape", "[I", true)
  | 3 => ("ArmsHouseModel", "taped", "I", false)
  | 4 => ("ArmsHouseModel", "out", "[I", true)
  | 5 => ("ArmsHouseModel", "outSize", "I", false)
  | 6 => ("ArmsHouseModel", "tinctures", "[J", true)
  | 7 => ("ArmsHouseModel", "things", "[J", true)
  | 8 => ("ArmsHouseModel", "attitudes", "[J", true)
  | 9 => ("ArmsHouseModel", "ordinaries", "[J", true)
  | 10 => ("ArmsHouseModel", "parts", "[J", true)
  | 11 => ("ArmsHouseModel", "functions", "[J", true)
  | 12 => ("ArmsHouseModel", "pos", "I", false)
  | 13 => ("ArmsHouseModel", "kind", "I", false)
  | 14 => ("ArmsHouseModel", "place", "I", false)
  | 15 => ("ArmsHouseModel", "value", "J", false)
  | 16 => ("ArmsHouseModel", "wrong", "Z", false)
  | 17 => ("ArmsHouseModel", "fault", "I", false)
  | 18 => ("ArmsHouseModel", "wrongAt", "I", false)
  | 19 => ("ArmsHouseModel", "hasChief", "Z", false)
  | 20 => ("ArmsHouseModel", "hasBordure", "Z", false)
  | 21 => ("ArmsHouseModel", "dotOf", "[I", true)
  | 22 => ("ArmsHouseModel", "sizes", "[I", true)
  | 23 => ("ArmsHouseModel", "drawn", "I", false)
  | 24 => ("ArmsHouseModel", "memberX", "[I", true)
  | 25 => ("ArmsHouseModel", "memberY", "[I", true)
  | 26 => ("ArmsHouseModel", "marks", "[I", true)
  | 27 => ("ArmsHouseModel", "marking", "I", false)
  | 28 => ("ArmsHouseModel", "persons", "I", false)
  | 29 => ("ArmsHouseModel", "woman", "[Z", true)
  | 30 => ("ArmsHouseModel", "fatherOf", "[I", true)
  | 31 => ("ArmsHouseModel", "motherOf", "[I", true)
  | 32 => ("ArmsHouseModel", "bornOn", "[I", true)
  | 33 => ("ArmsHouseModel", "diedOn", "[I", true)
  | 34 => ("ArmsHouseModel", "armsOf", "[I", true)
  | 35 => ("ArmsHouseModel", "quarters", "[I", true)
  | 36 => ("ArmsHouseModel", "quarterMany", "I", false)
  | 37 => ("ArmsHouseModel", "asked", "[Z", true)
  | 38 => ("ArmsHouseModel", "firstQuarters", "[I", true)
  | 39 => ("ArmsHouseModel", "clashMany", "I", false)
  | 40 => ("ArmsHouseModel", "entries", "I", false)
  | 41 => ("ArmsHouseModel", "entered", "[I", true)
  | 42 => ("ArmsHouseModel", "fromDay", "[I", true)
  | 43 => ("ArmsHouseModel", "struckOn", "[I", true)
  | 44 => ("ArmsHouseModel", "spots", "[I", true)
  | 45 => ("ArmsHouseModel", "spotMany", "I", false)
  | 46 => ("ArmsHouseModel", "clauses", "I", false)
  | 47 => ("ArmsHouseModel", "rootOf", "[I", true)
  | 48 => ("ArmsHouseModel", "firstToken", "[I", true)
  | 49 => ("ArmsHouseModel", "partKind", "[I", true)
  | 50 => ("ArmsHouseModel", "partOne", "[I", true)
  | 51 => ("ArmsHouseModel", "partTwo", "[I", true)
  | 52 => ("ArmsHouseModel", "partPlace", "[I", true)
  | 53 => ("ArmsHouseModel", "partMany", "I", false)
  | 54 => ("ArmsHouseModel", "partBase", "I", false)
  | 55 => ("ArmsHouseModel", "nested", "I", false)
  | 56 => ("ArmsHouseModel", "counted", "I", false)
  | 57 => ("ArmsHouseModel", "sortNow", "I", false)
  | 58 => ("ArmsHouseModel", "now", "J", false)
  | 59 => ("ArmsHouseModel", "failed", "I", false)
  | 60 => ("ArmsHouseModel", "failedPlace", "I", false)
  | 61 => ("ArmsHouseModel", "about", "I", false)
  | 62 => ("ArmsHouseModel", "toldWhole", "J", false)
  | 63 => ("ArmsHouseModel", "toldPlace", "I", false)
  | 64 => ("ArmsHouseModel", "placeOf", "[I", true)
  | 65 => ("ArmsHouseModel", "rankOf", "[I", true)
  | 66 => ("ArmsHouseModel", "clean", "I", false)
  | _ => ("ArmsHouseModel", "leastRank", "I", false)
def tyX8 : Nat → FieldType := fun k => match k with
  | 0 => .array .int
  | 1 => .int
  | 2 => .array .int
  | 3 => .int
  | 4 => .array .int
  | 5 => .int
  | 6 => .array .long
  | 7 => .array .long
  | 8 => .array .long
  | 9 => .array .long
  | 10 => .array .long
  | 11 => .array .long
  | 12 => .int
  | 13 => .int
  | 14 => .int
  | 15 => .long
  | 16 => .boolean
  | 17 => .int
  | 18 => .int
  | 19 => .boolean
  | 20 => .boolean
  | 21 => .array .int
  | 22 => .array .int
  | 23 => .int
  | 24 => .array .int
  | 25 => .array .int
  | 26 => .array .int
  | 27 => .int
  | 28 => .int
  | 29 => .array .boolean
  | 30 => .array .int
  | 31 => .array .int
  | 32 => .array .int
  | 33 => .array .int
  | 34 => .array .int
  | 35 => .array .int
  | 36 => .int
  | 37 => .array .boolean
  | 38 => .array .int
  | 39 => .int
  | 40 => .int
  | 41 => .array .int
  | 42 => .array .int
  | 43 => .array .int
  | 44 => .array .int
  | 45 => .int
  | 46 => .int
  | 47 => .array .int
  | 48 => .array .int
  | 49 => .array .int
  | 50 => .array .int
  | 51 => .array .int
  | 52 => .array .int
  | 53 => .int
  | 54 => .int
  | 55 => .int
  | 56 => .int
  | 57 => .int
  | 58 => .long
  | 59 => .int
  | 60 => .int
  | 61 => .int
  | 62 => .long
  | 63 => .int
  | 64 => .array .int
  | 65 => .array .int
  | 66 => .int
  | _ => .int
abbrev wsX80 : List Cond := u_ws RX8 TX8 68
theorem nmX8 : ∀ a, a < 68 → ∀ b, b < 68 → a ≠ b → (TX8 a).2.1 ≠ (TX8 b).2.1 := by decide +kernel
theorem tyX8_ok : ∀ k, k < 68 → parseFieldDescriptor (TX8 k).2.2.1 = some (tyX8 k) := by decide +kernel
theorem in_X8 : ∀ w ∈ wsX80, w ∈ lw_all := lw_in wsX80 [1853, 1855, 1857, 1859, 1861, 1863, 1865, 1867, 1869, 1871, 1873, 1875, 1877, 1879, 1881, 1883, 1885, 1887, 1889, 1891, 1893, 1895, 1897, 1899, 1901, 1903, 1905, 1907, 1909, 1911, 1913, 1915, 1917, 1919, 1921, 1923, 1925, 1927, 1929, 1931, 1933, 1935, 1937, 1939, 1941, 1943, 1945, 1947, 1949, 1951, 1953, 1955, 1957, 1959, 1961, 1963, 1965, 1967, 1969, 1971, 1973, 1975, 1977, 1979, 1981, 1983, 1985, 1987] (by decide +kernel) (by decide +kernel)
def RX9 : String := "ArmsHouse$Group"
def TX9 : u_T := fun k => match k with
  | 0 => ("ArmsHouse$Group", "number", "I", true)
  | 1 => ("ArmsHouse$Group", "thing", "I", true)
  | 2 => ("ArmsHouse$Group", "attitude", "I", true)
  | 3 => ("ArmsHouse$Group", "tincture", "I", false)
  | _ => ("ArmsHouse$Group", "told", "LArmsHouse$Whole;", true)
def tyX9 : Nat → FieldType := fun k => match k with
  | 0 => .int
  | 1 => .int
  | 2 => .int
  | 3 => .int
  | _ => .object "ArmsHouse$Whole"
abbrev wsX90 : List Cond := u_ws RX9 TX9 5
theorem nmX9 : ∀ a, a < 5 → ∀ b, b < 5 → a ≠ b → (TX9 a).2.1 ≠ (TX9 b).2.1 := by decide +kernel
theorem tyX9_ok : ∀ k, k < 5 → parseFieldDescriptor (TX9 k).2.2.1 = some (tyX9 k) := by decide +kernel
theorem in_X9 : ∀ w ∈ wsX90, w ∈ lw_all := lw_in wsX90 [873, 875, 877, 879, 881] (by decide +kernel) (by decide +kernel)
def RX10 : String := "ArmsHouse$Person"
def TX10 : u_T := fun k => match k with
  | 0 => ("ArmsHouse$Person", "woman", "Z", false)
  | 1 => ("ArmsHouse$Person", "father", "LArmsHouse$Person;", false)
  | 2 => ("ArmsHouse$Person", "mother", "LArmsHouse$Person;", false)
  | 3 => ("ArmsHouse$Person", "number", "I", false)
  | 4 => ("ArmsHouse$Person", "born", "I", false)
  | 5 => ("ArmsHouse$Person", "died", "I", false)
  | _ => ("ArmsHouse$Person", "own", "I", false)
def tyX10 : Nat → FieldType := fun k => match k with
  | 0 => .boolean
  | 1 => .object "ArmsHouse$Person"
  | 2 => .object "ArmsHouse$Person"
  | 3 => .int
  | 4 => .int
  | 5 => .int
  | _ => .int
abbrev wsX100 : List Cond := u_ws RX10 TX10 7
theorem nmX10 : ∀ a, a < 7 → ∀ b, b < 7 → a ≠ b → (TX10 a).2.1 ≠ (TX10 b).2.1 := by decide +kernel
theorem tyX10_ok : ∀ k, k < 7 → parseFieldDescriptor (TX10 k).2.2.1 = some (tyX10 k) := by decide +kernel
theorem in_X10 : ∀ w ∈ wsX100, w ∈ lw_all := lw_in wsX100 [1132, 1134, 1136, 1138, 1140, 1142, 1144] (by decide +kernel) (by decide +kernel)
def RX12 : String := "ArmsHouse$One"
def TX12 : u_T := fun k => match k with
  | 0 => ("ArmsHouse$Node", "place", "I", true)
  | 1 => ("ArmsHouse$Node", "mine", "LArmsHouse$Whole;", true)
  | 2 => ("ArmsHouse$Node", "this$0", "LArmsHouse;", true)
  | 3 => ("ArmsHouse$One", "sort", "I", true)
  | 4 => ("ArmsHouse$One", "of", "LArmsHouse$Node;", true)
  | _ => ("ArmsHouse$One", "this$0", "LArmsHouse;", true)
def tyX12 : Nat → FieldType := fun k => match k with
  | 0 => .int
  | 1 => .object "ArmsHouse$Whole"
  | 2 => .object "ArmsHouse"
  | 3 => .int
  | 4 => .object "ArmsHouse$Node"
  | _ => .object "ArmsHouse"
abbrev wsX120 : List Cond := u_ws RX12 TX12 6
theorem tyX12_ok : ∀ k, k < 6 → parseFieldDescriptor (TX12 k).2.2.1 = some (tyX12 k) := by decide +kernel
theorem in_X12 : ∀ w ∈ wsX120, w ∈ lw_all := lw_in wsX120 [1330, 1332, 1334, 1324, 1326, 1328] (by decide +kernel) (by decide +kernel)
def RX13 : String := "ArmsHouse$Number"
def TX13 : u_T := fun k => match k with
  | 0 => ("ArmsHouse$Node", "place", "I", true)
  | 1 => ("ArmsHouse$Node", "mine", "LArmsHouse$Whole;", true)
  | 2 => ("ArmsHouse$Node", "this$0", "LArmsHouse;", true)
  | 3 => ("ArmsHouse$Number", "value", "J", true)
  | _ => ("ArmsHouse$Number", "this$0", "LArmsHouse;", true)
def tyX13 : Nat → FieldType := fun k => match k with
  | 0 => .int
  | 1 => .object "ArmsHouse$Whole"
  | 2 => .object "ArmsHouse"
  | 3 => .long
  | _ => .object "ArmsHouse"
abbrev wsX130 : List Cond := u_ws RX13 TX13 5
theorem tyX13_ok : ∀ k, k < 5 → parseFieldDescriptor (TX13 k).2.2.1 = some (tyX13 k) := by decide +kernel
theorem in_X13 : ∀ w ∈ wsX130, w ∈ lw_all := lw_in wsX130 [1361, 1362, 1363, 1357, 1359] (by decide +kernel) (by decide +kernel)
def RX14 : String := "ArmsHouse$Plain"
def TX14 : u_T := fun k => match k with
  | 0 => ("ArmsHouse$Node", "place", "I", true)
  | 1 => ("ArmsHouse$Node", "mine", "LArmsHouse$Whole;", true)
  | 2 => ("ArmsHouse$Node", "this$0", "LArmsHouse;", true)
  | 3 => ("ArmsHouse$Plain", "sort", "I", true)
  | _ => ("ArmsHouse$Plain", "this$0", "LArmsHouse;", true)
def tyX14 : Nat → FieldType := fun k => match k with
  | 0 => .int
  | 1 => .object "ArmsHouse$Whole"
  | 2 => .object "ArmsHouse"
  | 3 => .int
  | _ => .object "ArmsHouse"
abbrev wsX140 : List Cond := u_ws RX14 TX14 5
theorem tyX14_ok : ∀ k, k < 5 → parseFieldDescriptor (TX14 k).2.2.1 = some (tyX14 k) := by decide +kernel
theorem in_X14 : ∀ w ∈ wsX140, w ∈ lw_all := lw_in wsX140 [1377, 1378, 1379, 1373, 1375] (by decide +kernel) (by decide +kernel)
def RX15 : String := "ArmsHouse$Try"
def TX15 : u_T := fun k => match k with
  | 0 => ("ArmsHouse$Node", "place", "I", true)
  | 1 => ("ArmsHouse$Node", "mine", "LArmsHouse$Whole;", true)
  | 2 => ("ArmsHouse$Node", "this$0", "LArmsHouse;", true)
  | 3 => ("ArmsHouse$Try", "of", "LArmsHouse$Node;", true)
  | 4 => ("ArmsHouse$Try", "other", "LArmsHouse$Node;", true)
  | _ => ("ArmsHouse$Try", "this$0", "LArmsHouse;", true)
def tyX15 : Nat → FieldType := fun k => match k with
  | 0 => .int
  | 1 => .object "ArmsHouse$Whole"
  | 2 => .object "ArmsHouse"
  | 3 => .object "ArmsHouse$Node"
  | 4 => .object "ArmsHouse$Node"
  | _ => .object "ArmsHouse"
abbrev wsX150 : List Cond := u_ws RX15 TX15 6
theorem tyX15_ok : ∀ k, k < 6 → parseFieldDescriptor (TX15 k).2.2.1 = some (tyX15 k) := by decide +kernel
theorem in_X15 : ∀ w ∈ wsX150, w ∈ lw_all := lw_in wsX150 [1396, 1397, 1398, 1390, 1392, 1394] (by decide +kernel) (by decide +kernel)
def RX16 : String := "ArmsHouse$Two"
def TX16 : u_T := fun k => match k with
  | 0 => ("ArmsHouse$Node", "place", "I", true)
  | 1 => ("ArmsHouse$Node", "mine", "LArmsHouse$Whole;", true)
  | 2 => ("ArmsHouse$Node", "this$0", "LArmsHouse;", true)
  | 3 => ("ArmsHouse$Two", "sort", "I", true)
  | 4 => ("ArmsHouse$Two", "left", "LArmsHouse$Node;", true)
  | 5 => ("ArmsHouse$Two", "right", "LArmsHouse$Node;", true)
  | _ => ("ArmsHouse$Two", "this$0", "LArmsHouse;", true)
def tyX16 : Nat → FieldType := fun k => match k with
  | 0 => .int
  | 1 => .object "ArmsHouse$Whole"
  | 2 => .object "ArmsHouse"
  | 3 => .int
  | 4 => .object "ArmsHouse$Node"
  | 5 => .object "ArmsHouse$Node"
  | _ => .object "ArmsHouse"
abbrev wsX160 : List Cond := u_ws RX16 TX16 7
theorem tyX16_ok : ∀ k, k < 7 → parseFieldDescriptor (TX16 k).2.2.1 = some (tyX16 k) := by decide +kernel
theorem in_X16 : ∀ w ∈ wsX160, w ∈ lw_all := lw_in wsX160 [1418, 1419, 1420, 1410, 1412, 1414, 1416] (by decide +kernel) (by decide +kernel)
def RJ3 : String := "java/lang/String"
def TJ3 : u_T := fun k => match k with
  | 0 => ("java/lang/String", "value", "[B", true)
  | _ => ("java/lang/String", "coder", "B", true)
def tyJ3 : Nat → FieldType := fun k => match k with
  | 0 => .array .byte
  | _ => .byte
abbrev wsJ30 : List Cond := u_ws RJ3 TJ3 2
theorem nmJ3 : ∀ a, a < 2 → ∀ b, b < 2 → a ≠ b → (TJ3 a).2.1 ≠ (TJ3 b).2.1 := by decide +kernel
theorem tyJ3_ok : ∀ k, k < 2 → parseFieldDescriptor (TJ3 k).2.2.1 = some (tyJ3 k) := by decide +kernel
theorem in_J3 : ∀ w ∈ wsJ30, w ∈ lw_all := lw_in wsJ30 [943, 945] (by decide +kernel) (by decide +kernel)
theorem q149 : (Jvm.Cond.initialized "ArmsHouseLaw") ∈ lw_all := lw_g (lw_at lw_m1 0 rfl) rfl
theorem q150 : (Jvm.Cond.initialized "ArmsHouse") ∈ lw_all := lw_g (lw_at lw_m1 1 rfl) rfl
theorem q151 : (Jvm.Cond.initialized "ArmsHouse$Text") ∈ lw_all := lw_g (lw_at lw_m1 2 rfl) rfl
theorem q152 : (Jvm.Cond.initialized "java/lang/Throwable") ∈ lw_all := lw_g (lw_at lw_m1 3 rfl) rfl
theorem q153 : (Jvm.Cond.initialized "java/lang/Exception") ∈ lw_all := lw_g (lw_at lw_m1 4 rfl) rfl
theorem q154 : (Jvm.Cond.initialized "java/lang/RuntimeException") ∈ lw_all := lw_g (lw_at lw_m1 5 rfl) rfl
theorem q155 : (Jvm.Cond.initialized "ArmsHouse$Failure") ∈ lw_all := lw_g (lw_at lw_m1 6 rfl) rfl
theorem q156 : (Jvm.Cond.initialized "ArmsHouse$Arms") ∈ lw_all := lw_g (lw_at lw_m1 7 rfl) rfl
theorem q157 : (Jvm.Cond.initialized "ArmsHouse$Field") ∈ lw_all := lw_g (lw_at lw_m1 8 rfl) rfl
theorem q158 : (Jvm.Cond.initialized "ArmsHouse$Whole") ∈ lw_all := lw_g (lw_at lw_m1 9 rfl) rfl
theorem q159 : (Jvm.Cond.initialized "ArmsHouse$Layer") ∈ lw_all := lw_g (lw_at lw_m1 10 rfl) rfl
theorem q160 : (Jvm.Cond.initialized "ArmsHouse$Ordinary") ∈ lw_all := lw_g (lw_at lw_m1 11 rfl) rfl
theorem q161 : (Jvm.Cond.initialized "ArmsHouseModel") ∈ lw_all := lw_g (lw_at lw_m1 12 rfl) rfl
theorem q162 : (Jvm.Cond.initialized "java/lang/System") ∈ lw_all := lw_g (lw_at lw_m1 13 rfl) rfl
theorem q163 : (Jvm.Cond.initialized "java/lang/String") ∈ lw_all := lw_g (lw_at lw_m1 14 rfl) rfl
theorem q164 : (Jvm.Cond.initialized "java/lang/StringLatin1") ∈ lw_all := lw_g (lw_at lw_m1 15 rfl) rfl
theorem q165 : (Jvm.Cond.initialized "jdk/internal/util/Preconditions") ∈ lw_all := lw_g (lw_at lw_m1 16 rfl) rfl
theorem q166 : (Jvm.Cond.initialized "java/lang/StringUTF16") ∈ lw_all := lw_g (lw_at lw_m1 17 rfl) rfl
theorem q167 : (Jvm.Cond.initialized "ArmsHouse$Group") ∈ lw_all := lw_g (lw_at lw_m1 18 rfl) rfl
theorem q168 : (Jvm.Cond.initialized "java/lang/IndexOutOfBoundsException") ∈ lw_all := lw_g (lw_at lw_m1 19 rfl) rfl
theorem q169 : (Jvm.Cond.initialized "java/lang/ArrayIndexOutOfBoundsException") ∈ lw_all := lw_g (lw_at lw_m1 20 rfl) rfl
theorem q170 : (Jvm.Cond.initialized "java/lang/Math") ∈ lw_all := lw_g (lw_at lw_m1 21 rfl) rfl
theorem q171 : (Jvm.Cond.initialized "java/lang/NullPointerException") ∈ lw_all := lw_g (lw_at lw_m1 22 rfl) rfl
theorem q172 : (Jvm.Cond.initialized "ArmsHouse$Person") ∈ lw_all := lw_g (lw_at lw_m1 23 rfl) rfl
theorem q173 : (Jvm.Cond.initialized "ArmsHouse$Node") ∈ lw_all := lw_g (lw_at lw_m1 24 rfl) rfl
theorem q174 : (Jvm.Cond.initialized "ArmsHouse$One") ∈ lw_all := lw_g (lw_at lw_m1 25 rfl) rfl
theorem q175 : (Jvm.Cond.initialized "ArmsHouse$Number") ∈ lw_all := lw_g (lw_at lw_m1 26 rfl) rfl
theorem q176 : (Jvm.Cond.initialized "ArmsHouse$Plain") ∈ lw_all := lw_g (lw_at lw_m1 27 rfl) rfl
theorem q177 : (Jvm.Cond.initialized "ArmsHouse$Try") ∈ lw_all := lw_g (lw_at lw_m1 28 rfl) rfl
theorem q178 : (Jvm.Cond.initialized "ArmsHouse$Two") ∈ lw_all := lw_g (lw_at lw_m1 29 rfl) rfl
theorem q179 : (Jvm.Cond.initialized "java/lang/ClassCastException") ∈ lw_all := lw_g (lw_at lw_m1 30 rfl) rfl
theorem q180 : (Jvm.Cond.initialized "java/lang/ArithmeticException") ∈ lw_all := lw_g (lw_at lw_m1 31 rfl) rfl
theorem q181 : (Jvm.Cond.classLink "ArmsHouseLaw" (7 : Nat) "ArmsHouse") ∈ lw_all := lw_g (lw_at lw_m1 32 rfl) rfl
theorem q182 : (Jvm.Cond.instantiable "ArmsHouse" (47 : Nat)) ∈ lw_all := lw_g (lw_at lw_m1 33 rfl) rfl
theorem q183 : (Jvm.Cond.methodLink "ArmsHouseLaw" (9 : Nat) ({ cls := "ArmsHouse", name := "<init>", desc := "()V" } : Jvm.MethodName)) ∈ lw_all := lw_g (lw_at lw_m1 34 rfl) rfl
theorem q184 : (Jvm.Cond.instanceMethod ({ cls := "ArmsHouse", name := "<init>", desc := "()V" } : Jvm.MethodName)) ∈ lw_all := lw_g (lw_at lw_m1 35 rfl) rfl
theorem q185 : (Jvm.Cond.code ({ cls := "ArmsHouse", name := "<init>", desc := "()V" } : Jvm.MethodName) prog_1_method_37_code (1 : Nat) (Option.none : Option Jvm.ClassFile.FieldType)) ∈ lw_all := lw_g (lw_at lw_m1 36 rfl) rfl
theorem q186 : (Jvm.Cond.methodLink "ArmsHouse" (324 : Nat) ({ cls := "java/lang/Object", name := "<init>", desc := "()V" } : Jvm.MethodName)) ∈ lw_all := lw_g (lw_at lw_m1 37 rfl) rfl
theorem q187 : (Jvm.Cond.instanceMethod ({ cls := "java/lang/Object", name := "<init>", desc := "()V" } : Jvm.MethodName)) ∈ lw_all := lw_g (lw_at lw_m1 38 rfl) rfl
theorem q188 : (Jvm.Cond.code ({ cls := "java/lang/Object", name := "<init>", desc := "()V" } : Jvm.MethodName) object_method_1_code (1 : Nat) (Option.none : Option Jvm.ClassFile.FieldType)) ∈ lw_all := lw_g (lw_at lw_m1 39 rfl) rfl
theorem q189 : (Jvm.Cond.classLink "ArmsHouse" (159 : Nat) "java/lang/String") ∈ lw_all := lw_g (lw_at lw_m1 40 rfl) rfl
theorem q190 : (Jvm.Cond.arrayOver (Jvm.ClassFile.FieldType.object "java/lang/String")) ∈ lw_tbl := lw_at lw_m1 41 rfl
theorem q191 : (Jvm.Cond.stringRef "ArmsHouse" (327 : Nat) "or") ∈ lw_tbl := lw_at lw_m1 42 rfl
theorem q192 : (Jvm.Cond.stringRef "ArmsHouse" (329 : Nat) "argent") ∈ lw_tbl := lw_at lw_m1 43 rfl
theorem q193 : (Jvm.Cond.stringRef "ArmsHouse" (331 : Nat) "gules") ∈ lw_tbl := lw_at lw_m1 44 rfl
theorem q194 : (Jvm.Cond.stringRef "ArmsHouse" (333 : Nat) "azure") ∈ lw_tbl := lw_at lw_m1 45 rfl
theorem q195 : (Jvm.Cond.stringRef "ArmsHouse" (335 : Nat) "sable") ∈ lw_tbl := lw_at lw_m1 46 rfl
theorem q196 : (Jvm.Cond.stringRef "ArmsHouse" (337 : Nat) "vert") ∈ lw_tbl := lw_at lw_m1 47 rfl
theorem q197 : (Jvm.Cond.stringRef "ArmsHouse" (339 : Nat) "purpure") ∈ lw_tbl := lw_at lw_m1 48 rfl
theorem q198 : (Jvm.Cond.stringRef "ArmsHouse" (341 : Nat) "ermine") ∈ lw_tbl := lw_at lw_m1 49 rfl
theorem q199 : (Jvm.Cond.stringRef "ArmsHouse" (343 : Nat) "vair") ∈ lw_tbl := lw_at lw_m1 50 rfl
theorem q200 : (Jvm.Cond.stringRef "ArmsHouse" (345 : Nat) "roundel") ∈ lw_tbl := lw_at lw_m1 51 rfl
theorem q201 : (Jvm.Cond.stringRef "ArmsHouse" (347 : Nat) "lozenge") ∈ lw_tbl := lw_at lw_m1 52 rfl
theorem q202 : (Jvm.Cond.stringRef "ArmsHouse" (349 : Nat) "billet") ∈ lw_tbl := lw_at lw_m1 53 rfl
theorem q203 : (Jvm.Cond.stringRef "ArmsHouse" (351 : Nat) "crescent") ∈ lw_tbl := lw_at lw_m1 54 rfl
theorem q204 : (Jvm.Cond.stringRef "ArmsHouse" (353 : Nat) "mullet") ∈ lw_tbl := lw_at lw_m1 55 rfl
theorem q205 : (Jvm.Cond.stringRef "ArmsHouse" (355 : Nat) "tower") ∈ lw_tbl := lw_at lw_m1 56 rfl
theorem q206 : (Jvm.Cond.stringRef "ArmsHouse" (357 : Nat) "rose") ∈ lw_tbl := lw_at lw_m1 57 rfl
theorem q207 : (Jvm.Cond.stringRef "ArmsHouse" (359 : Nat) "tree") ∈ lw_tbl := lw_at lw_m1 58 rfl
theorem q208 : (Jvm.Cond.stringRef "ArmsHouse" (361 : Nat) "key") ∈ lw_tbl := lw_at lw_m1 59 rfl
theorem q209 : (Jvm.Cond.stringRef "ArmsHouse" (363 : Nat) "eagle") ∈ lw_tbl := lw_at lw_m1 60 rfl
theorem q210 : (Jvm.Cond.stringRef "ArmsHouse" (365 : Nat) "lion") ∈ lw_tbl := lw_at lw_m1 61 rfl
theorem q211 : (Jvm.Cond.stringRef "ArmsHouse" (367 : Nat) "fish") ∈ lw_tbl := lw_at lw_m1 62 rfl
theorem q212 : (Jvm.Cond.stringRef "ArmsHouse" (369 : Nat) "rampant") ∈ lw_tbl := lw_at lw_m1 63 rfl
theorem q213 : (Jvm.Cond.stringRef "ArmsHouse" (371 : Nat) "passant") ∈ lw_tbl := lw_at lw_m1 64 rfl
theorem q214 : (Jvm.Cond.stringRef "ArmsHouse" (373 : Nat) "erect") ∈ lw_tbl := lw_at lw_m1 65 rfl
theorem q215 : (Jvm.Cond.stringRef "ArmsHouse" (375 : Nat) "inverted") ∈ lw_tbl := lw_at lw_m1 66 rfl
theorem q216 : (Jvm.Cond.stringRef "ArmsHouse" (377 : Nat) "pale") ∈ lw_tbl := lw_at lw_m1 67 rfl
theorem q217 : (Jvm.Cond.stringRef "ArmsHouse" (379 : Nat) "fess") ∈ lw_tbl := lw_at lw_m1 68 rfl
theorem q218 : (Jvm.Cond.stringRef "ArmsHouse" (381 : Nat) "bend") ∈ lw_tbl := lw_at lw_m1 69 rfl
theorem q219 : (Jvm.Cond.stringRef "ArmsHouse" (382 : Nat) "chevron") ∈ lw_tbl := lw_at lw_m1 70 rfl
theorem q220 : (Jvm.Cond.stringRef "ArmsHouse" (384 : Nat) "saltire") ∈ lw_tbl := lw_at lw_m1 71 rfl
theorem q221 : (Jvm.Cond.stringRef "ArmsHouse" (386 : Nat) "cross") ∈ lw_tbl := lw_at lw_m1 72 rfl
theorem q222 : (Jvm.Cond.stringRef "ArmsHouse" (388 : Nat) "chief") ∈ lw_tbl := lw_at lw_m1 73 rfl
theorem q223 : (Jvm.Cond.stringRef "ArmsHouse" (390 : Nat) "bordure") ∈ lw_tbl := lw_at lw_m1 74 rfl
theorem q224 : (Jvm.Cond.stringRef "ArmsHouse" (392 : Nat) "per") ∈ lw_tbl := lw_at lw_m1 75 rfl
theorem q225 : (Jvm.Cond.stringRef "ArmsHouse" (394 : Nat) "and") ∈ lw_tbl := lw_at lw_m1 76 rfl
theorem q226 : (Jvm.Cond.stringRef "ArmsHouse" (396 : Nat) "quarterly") ∈ lw_tbl := lw_at lw_m1 77 rfl
theorem q227 : (Jvm.Cond.stringRef "ArmsHouse" (398 : Nat) "barry") ∈ lw_tbl := lw_at lw_m1 78 rfl
theorem q228 : (Jvm.Cond.stringRef "ArmsHouse" (400 : Nat) "paly") ∈ lw_tbl := lw_at lw_m1 79 rfl
theorem q229 : (Jvm.Cond.stringRef "ArmsHouse" (402 : Nat) "bendy") ∈ lw_tbl := lw_at lw_m1 80 rfl
theorem q230 : (Jvm.Cond.stringRef "ArmsHouse" (404 : Nat) "checky") ∈ lw_tbl := lw_at lw_m1 81 rfl
theorem q231 : (Jvm.Cond.stringRef "ArmsHouse" (406 : Nat) "of") ∈ lw_tbl := lw_at lw_m1 82 rfl
theorem q232 : (Jvm.Cond.stringRef "ArmsHouse" (408 : Nat) "wavy") ∈ lw_tbl := lw_at lw_m1 83 rfl
theorem q233 : (Jvm.Cond.stringRef "ArmsHouse" (410 : Nat) "indented") ∈ lw_tbl := lw_at lw_m1 84 rfl
theorem q234 : (Jvm.Cond.stringRef "ArmsHouse" (412 : Nat) "a") ∈ lw_tbl := lw_at lw_m1 85 rfl
theorem q235 : (Jvm.Cond.stringRef "ArmsHouse" (414 : Nat) "overall") ∈ lw_tbl := lw_at lw_m1 86 rfl
theorem q236 : (Jvm.Cond.stringRef "ArmsHouse" (415 : Nat) "on") ∈ lw_tbl := lw_at lw_m1 87 rfl
theorem q237 : (Jvm.Cond.stringRef "ArmsHouse" (417 : Nat) "between") ∈ lw_tbl := lw_at lw_m1 88 rfl
theorem q238 : (Jvm.Cond.stringRef "ArmsHouse" (419 : Nat) "in") ∈ lw_tbl := lw_at lw_m1 89 rfl
theorem q239 : (Jvm.Cond.stringRef "ArmsHouse" (421 : Nat) "base") ∈ lw_tbl := lw_at lw_m1 90 rfl
theorem q240 : (Jvm.Cond.stringRef "ArmsHouse" (423 : Nat) "dexter") ∈ lw_tbl := lw_at lw_m1 91 rfl
theorem q241 : (Jvm.Cond.stringRef "ArmsHouse" (425 : Nat) "sinister") ∈ lw_tbl := lw_at lw_m1 92 rfl
theorem q242 : (Jvm.Cond.stringRef "ArmsHouse" (427 : Nat) "not") ∈ lw_tbl := lw_at lw_m1 93 rfl
theorem q243 : (Jvm.Cond.stringRef "ArmsHouse" (429 : Nat) "field") ∈ lw_tbl := lw_at lw_m1 94 rfl
theorem q244 : (Jvm.Cond.stringRef "ArmsHouse" (430 : Nat) "layers") ∈ lw_tbl := lw_at lw_m1 95 rfl
theorem q245 : (Jvm.Cond.stringRef "ArmsHouse" (431 : Nat) "breaches") ∈ lw_tbl := lw_at lw_m1 96 rfl
theorem q246 : (Jvm.Cond.stringRef "ArmsHouse" (433 : Nat) "layer") ∈ lw_tbl := lw_at lw_m1 97 rfl
theorem q247 : (Jvm.Cond.stringRef "ArmsHouse" (434 : Nat) "group") ∈ lw_tbl := lw_at lw_m1 98 rfl
theorem q248 : (Jvm.Cond.stringRef "ArmsHouse" (435 : Nat) "first") ∈ lw_tbl := lw_at lw_m1 99 rfl
theorem q249 : (Jvm.Cond.stringRef "ArmsHouse" (436 : Nat) "second") ∈ lw_tbl := lw_at lw_m1 100 rfl
theorem q250 : (Jvm.Cond.stringRef "ArmsHouse" (437 : Nat) "tinct") ∈ lw_tbl := lw_at lw_m1 101 rfl
theorem q251 : (Jvm.Cond.stringRef "ArmsHouse" (439 : Nat) "many") ∈ lw_tbl := lw_at lw_m1 102 rfl
theorem q252 : (Jvm.Cond.stringRef "ArmsHouse" (441 : Nat) "thing") ∈ lw_tbl := lw_at lw_m1 103 rfl
theorem q253 : (Jvm.Cond.stringRef "ArmsHouse" (442 : Nat) "ordinary") ∈ lw_tbl := lw_at lw_m1 104 rfl
theorem q254 : (Jvm.Cond.stringRef "ArmsHouse" (443 : Nat) "kind") ∈ lw_tbl := lw_at lw_m1 105 rfl
theorem q255 : (Jvm.Cond.stringRef "ArmsHouse" (444 : Nat) "part") ∈ lw_tbl := lw_at lw_m1 106 rfl
theorem q256 : (Jvm.Cond.stringRef "ArmsHouse" (445 : Nat) "try") ∈ lw_tbl := lw_at lw_m1 107 rfl
theorem q257 : (Jvm.Cond.stringRef "ArmsHouse" (447 : Nat) "else") ∈ lw_tbl := lw_at lw_m1 108 rfl
theorem q258 : (Jvm.Cond.classLink "ArmsHouse" (73 : Nat) "ArmsHouse$Layer") ∈ lw_all := lw_g (lw_at lw_m1 109 rfl) rfl
theorem q259 : (Jvm.Cond.arrayOver (Jvm.ClassFile.FieldType.object "ArmsHouse$Layer")) ∈ lw_tbl := lw_at lw_m1 110 rfl
theorem q260 : (Jvm.Cond.classLink "ArmsHouse" (8 : Nat) "ArmsHouse$Text") ∈ lw_all := lw_g (lw_at lw_m1 111 rfl) rfl
theorem q261 : (Jvm.Cond.instantiable "ArmsHouse$Text" (10 : Nat)) ∈ lw_all := lw_g (lw_at lw_m1 112 rfl) rfl
theorem q262 : (Jvm.Cond.methodLinkNest "ArmsHouse" (449 : Nat) ({ cls := "ArmsHouse$Text", name := "<init>", desc := "(LArmsHouse;)V" } : Jvm.MethodName) "ArmsHouse") ∈ lw_tbl := lw_at lw_m1 113 rfl
theorem q263 : (Jvm.Cond.instanceMethod ({ cls := "ArmsHouse$Text", name := "<init>", desc := "(LArmsHouse;)V" } : Jvm.MethodName)) ∈ lw_all := lw_g (lw_at lw_m1 114 rfl) rfl
theorem q264 : (Jvm.Cond.code ({ cls := "ArmsHouse$Text", name := "<init>", desc := "(LArmsHouse;)V" } : Jvm.MethodName) prog_14_method_1_code (2 : Nat) (Option.none : Option Jvm.ClassFile.FieldType)) ∈ lw_all := lw_g (lw_at lw_m1 115 rfl) rfl
theorem q265 : (Jvm.Cond.methodLink "ArmsHouse$Text" (9 : Nat) ({ cls := "java/lang/Object", name := "<init>", desc := "()V" } : Jvm.MethodName)) ∈ lw_all := lw_g (lw_at lw_m1 116 rfl) rfl
theorem q266 : (Jvm.Cond.fieldLink "ArmsHouse$Text" (15 : Nat) "ArmsHouse$Text" "bytes" "[I") ∈ lw_all := lw_g (lw_at lw_m1 117 rfl) rfl
theorem q267 : (Jvm.Cond.fieldLink "ArmsHouse$Text" (19 : Nat) "ArmsHouse$Text" "kind" "[I") ∈ lw_all := lw_g (lw_at lw_m1 118 rfl) rfl
theorem q268 : (Jvm.Cond.fieldLink "ArmsHouse$Text" (22 : Nat) "ArmsHouse$Text" "at" "[I") ∈ lw_all := lw_g (lw_at lw_m1 119 rfl) rfl
theorem q269 : (Jvm.Cond.fieldLink "ArmsHouse" (43 : Nat) "ArmsHouse$Text" "at" "[I") ∈ lw_all := lw_g (lw_at lw_m1 120 rfl) rfl
theorem q270 : (Jvm.Cond.fieldLink "ArmsHouse$Text" (25 : Nat) "ArmsHouse$Text" "value" "[I") ∈ lw_all := lw_g (lw_at lw_m1 121 rfl) rfl
theorem q271 : (Jvm.Cond.fieldLink "ArmsHouse" (50 : Nat) "ArmsHouse$Text" "value" "[I") ∈ lw_all := lw_g (lw_at lw_m1 122 rfl) rfl
theorem q272 : (Jvm.Cond.fieldLink "ArmsHouse$Text" (34 : Nat) "ArmsHouse$Text" "size" "I") ∈ lw_all := lw_g (lw_at lw_m1 123 rfl) rfl
theorem q273 : (Jvm.Cond.fieldLink "ArmsHouse$Text" (38 : Nat) "ArmsHouse$Text" "pos" "I") ∈ lw_all := lw_g (lw_at lw_m1 124 rfl) rfl
theorem q274 : (Jvm.Cond.fieldLink "ArmsHouse" (47 : Nat) "ArmsHouse$Text" "pos" "I") ∈ lw_all := lw_g (lw_at lw_m1 125 rfl) rfl
theorem q275 : (Jvm.Cond.fieldLink "ArmsHouse$Text" (41 : Nat) "ArmsHouse$Text" "fault" "I") ∈ lw_all := lw_g (lw_at lw_m1 126 rfl) rfl
theorem q276 : (Jvm.Cond.fieldLink "ArmsHouse" (31 : Nat) "ArmsHouse$Text" "fault" "I") ∈ lw_all := lw_g (lw_at lw_m1 127 rfl) rfl
theorem q277 : (Jvm.Cond.fieldLink "ArmsHouse$Text" (44 : Nat) "ArmsHouse$Text" "place" "I") ∈ lw_all := lw_g (lw_at lw_m1 128 rfl) rfl
theorem q278 : (Jvm.Cond.fieldLink "ArmsHouse" (542 : Nat) "ArmsHouse$Text" "place" "I") ∈ lw_all := lw_g (lw_at lw_m1 129 rfl) rfl
theorem q279 : (Jvm.Cond.fieldLink "ArmsHouse$Text" (47 : Nat) "ArmsHouse$Text" "tokens" "I") ∈ lw_all := lw_g (lw_at lw_m1 130 rfl) rfl
theorem q280 : (Jvm.Cond.fieldLink "ArmsHouse$Text" (3 : Nat) "ArmsHouse$Text" "this$0" "LArmsHouse;") ∈ lw_all := lw_g (lw_at lw_m1 131 rfl) rfl
theorem q281 : (Jvm.Cond.laysFinal "ArmsHouse$Text" "ArmsHouse$Text" "bytes" "[I") ∈ lw_all := lw_g (lw_at lw_m1 132 rfl) rfl
theorem q283 : (Jvm.Cond.laysFinal "ArmsHouse$Text" "ArmsHouse$Text" "kind" "[I") ∈ lw_all := lw_g (lw_at lw_m1 134 rfl) rfl
theorem q285 : (Jvm.Cond.laysFinal "ArmsHouse$Text" "ArmsHouse$Text" "at" "[I") ∈ lw_all := lw_g (lw_at lw_m1 136 rfl) rfl
theorem q287 : (Jvm.Cond.laysFinal "ArmsHouse$Text" "ArmsHouse$Text" "value" "[I") ∈ lw_all := lw_g (lw_at lw_m1 138 rfl) rfl
theorem q289 : (Jvm.Cond.lays "ArmsHouse$Text" "ArmsHouse$Text" "size" "I") ∈ lw_all := lw_g (lw_at lw_m1 140 rfl) rfl
theorem q291 : (Jvm.Cond.lays "ArmsHouse$Text" "ArmsHouse$Text" "pos" "I") ∈ lw_all := lw_g (lw_at lw_m1 142 rfl) rfl
theorem q293 : (Jvm.Cond.lays "ArmsHouse$Text" "ArmsHouse$Text" "fault" "I") ∈ lw_all := lw_g (lw_at lw_m1 144 rfl) rfl
theorem q295 : (Jvm.Cond.lays "ArmsHouse$Text" "ArmsHouse$Text" "place" "I") ∈ lw_all := lw_g (lw_at lw_m1 146 rfl) rfl
theorem q297 : (Jvm.Cond.lays "ArmsHouse$Text" "ArmsHouse$Text" "tokens" "I") ∈ lw_all := lw_g (lw_at lw_m1 148 rfl) rfl
theorem q299 : (Jvm.Cond.laysFinal "ArmsHouse$Text" "ArmsHouse$Text" "this$0" "LArmsHouse;") ∈ lw_all := lw_g (lw_at lw_m1 150 rfl) rfl
theorem q302 : (Jvm.Cond.arrayClass Jvm.ClassFile.FieldType.byte) ∈ lw_all := lw_g (lw_at lw_m1 153 rfl) rfl
theorem q303 : (Jvm.Cond.arrayClass Jvm.ClassFile.FieldType.int) ∈ lw_all := lw_g (lw_at lw_m1 154 rfl) rfl
theorem q304 : (Jvm.Cond.arrayClass Jvm.ClassFile.FieldType.boolean) ∈ lw_all := lw_g (lw_at lw_m1 155 rfl) rfl
theorem q305 : (Jvm.Cond.classLink "ArmsHouse" (123 : Nat) "ArmsHouse$Arms") ∈ lw_all := lw_g (lw_at lw_m1 156 rfl) rfl
theorem q306 : (Jvm.Cond.arrayOver (Jvm.ClassFile.FieldType.object "ArmsHouse$Arms")) ∈ lw_tbl := lw_at lw_m1 157 rfl
theorem q307 : (Jvm.Cond.classLink "ArmsHouse" (463 : Nat) "ArmsHouse$Person") ∈ lw_all := lw_g (lw_at lw_m1 158 rfl) rfl
theorem q308 : (Jvm.Cond.arrayOver (Jvm.ClassFile.FieldType.object "ArmsHouse$Person")) ∈ lw_tbl := lw_at lw_m1 159 rfl
theorem q309 : (Jvm.Cond.classLink "ArmsHouse" (484 : Nat) "ArmsHouse$Failure") ∈ lw_all := lw_g (lw_at lw_m1 160 rfl) rfl
theorem q310 : (Jvm.Cond.instantiable "ArmsHouse$Failure" (6 : Nat)) ∈ lw_all := lw_g (lw_at lw_m1 161 rfl) rfl
theorem q311 : (Jvm.Cond.castable "ArmsHouse$Failure" "ArmsHouse$Failure") ∈ lw_tbl := lw_at lw_m1 162 rfl
theorem q312 : (Jvm.Cond.declares ({ cls := "java/lang/RuntimeException", name := "<init>", desc := "()V" } : Jvm.MethodName)) ∈ lw_tbl := lw_at lw_m1 163 rfl
theorem q313 : (Jvm.Cond.declares ({ cls := "java/lang/RuntimeException", name := "<init>", desc := "(Ljava/lang/String;)V" } : Jvm.MethodName)) ∈ lw_tbl := lw_at lw_m1 164 rfl
theorem q314 : (Jvm.Cond.declares ({ cls := "java/lang/Exception", name := "<init>", desc := "()V" } : Jvm.MethodName)) ∈ lw_tbl := lw_at lw_m1 165 rfl
theorem q315 : (Jvm.Cond.declares ({ cls := "java/lang/Exception", name := "<init>", desc := "(Ljava/lang/String;)V" } : Jvm.MethodName)) ∈ lw_tbl := lw_at lw_m1 166 rfl
theorem q316 : (Jvm.Cond.declares ({ cls := "java/lang/Throwable", name := "<init>", desc := "()V" } : Jvm.MethodName)) ∈ lw_tbl := lw_at lw_m1 167 rfl
theorem q317 : (Jvm.Cond.declares ({ cls := "java/lang/Throwable", name := "<init>", desc := "(Ljava/lang/String;)V" } : Jvm.MethodName)) ∈ lw_tbl := lw_at lw_m1 168 rfl
theorem q318 : (Jvm.Cond.selects "ArmsHouse$Failure" ({ cls := "java/lang/Throwable", name := "fillInStackTrace", desc := "(I)Ljava/lang/Throwable;" } : Jvm.MethodName) ({ cls := "java/lang/Throwable", name := "fillInStackTrace", desc := "(I)Ljava/lang/Throwable;" } : Jvm.MethodName)) ∈ lw_all := lw_g (lw_at lw_m1 169 rfl) rfl
theorem q319 : (Jvm.Cond.selects "ArmsHouse$Failure" ({ cls := "java/lang/Throwable", name := "fillInStackTrace", desc := "()Ljava/lang/Throwable;" } : Jvm.MethodName) ({ cls := "java/lang/Throwable", name := "fillInStackTrace", desc := "()Ljava/lang/Throwable;" } : Jvm.MethodName)) ∈ lw_all := lw_g (lw_at lw_m1 170 rfl) rfl
theorem q320 : (Jvm.Cond.lays "ArmsHouse$Failure" "java/lang/Throwable" "cause" "Ljava/lang/Throwable;") ∈ lw_all := lw_g (lw_at lw_m1 171 rfl) rfl
theorem q321 : (Jvm.Cond.lays "java/lang/Throwable" "java/lang/Throwable" "cause" "Ljava/lang/Throwable;") ∈ lw_all := lw_g (lw_at lw_m1 172 rfl) rfl
theorem q322 : (Jvm.Cond.lays "ArmsHouse$Failure" "java/lang/Throwable" "stackTrace" "[Ljava/lang/StackTraceElement;") ∈ lw_all := lw_g (lw_at lw_m1 173 rfl) rfl
theorem q323 : (Jvm.Cond.lays "java/lang/Throwable" "java/lang/Throwable" "stackTrace" "[Ljava/lang/StackTraceElement;") ∈ lw_all := lw_g (lw_at lw_m1 174 rfl) rfl
theorem q324 : (Jvm.Cond.lays "ArmsHouse$Failure" "java/lang/Throwable" "suppressedExceptions" "Ljava/util/List;") ∈ lw_all := lw_g (lw_at lw_m1 175 rfl) rfl
theorem q325 : (Jvm.Cond.lays "java/lang/Throwable" "java/lang/Throwable" "suppressedExceptions" "Ljava/util/List;") ∈ lw_all := lw_g (lw_at lw_m1 176 rfl) rfl
theorem q326 : (Jvm.Cond.lays "ArmsHouse$Failure" "java/lang/Throwable" "detailMessage" "Ljava/lang/String;") ∈ lw_all := lw_g (lw_at lw_m1 177 rfl) rfl
theorem q327 : (Jvm.Cond.lays "java/lang/Throwable" "java/lang/Throwable" "detailMessage" "Ljava/lang/String;") ∈ lw_all := lw_g (lw_at lw_m1 178 rfl) rfl
theorem q328 : (Jvm.Cond.lays "ArmsHouse$Failure" "java/lang/Throwable" "backtrace" "Ljava/lang/Object;") ∈ lw_all := lw_g (lw_at lw_m1 179 rfl) rfl
theorem q329 : (Jvm.Cond.lays "java/lang/Throwable" "java/lang/Throwable" "backtrace" "Ljava/lang/Object;") ∈ lw_all := lw_g (lw_at lw_m1 180 rfl) rfl
theorem q330 : (Jvm.Cond.fieldLink "java/lang/Throwable" (198 : Nat) "java/lang/Throwable" "backtrace" "Ljava/lang/Object;") ∈ lw_all := lw_g (lw_at lw_m1 181 rfl) rfl
theorem q332 : (Jvm.Cond.instanceMethod ({ cls := "java/lang/Throwable", name := "<init>", desc := "()V" } : Jvm.MethodName)) ∈ lw_all := lw_g (lw_at lw_m1 183 rfl) rfl
theorem q333 : (Jvm.Cond.code ({ cls := "java/lang/Throwable", name := "<init>", desc := "()V" } : Jvm.MethodName) prog_33_method_1_code (1 : Nat) (Option.none : Option Jvm.ClassFile.FieldType)) ∈ lw_all := lw_g (lw_at lw_m1 184 rfl) rfl
theorem q334 : (Jvm.Cond.methodLink "java/lang/Throwable" (1 : Nat) ({ cls := "java/lang/Object", name := "<init>", desc := "()V" } : Jvm.MethodName)) ∈ lw_all := lw_g (lw_at lw_m1 185 rfl) rfl
theorem q335 : (Jvm.Cond.fieldLink "java/lang/Throwable" (13 : Nat) "java/lang/Throwable" "UNASSIGNED_STACK" "[Ljava/lang/StackTraceElement;") ∈ lw_all := lw_g (lw_at lw_m1 186 rfl) rfl
theorem q336 : (Jvm.Cond.laysStatic "java/lang/Throwable" "UNASSIGNED_STACK" "[Ljava/lang/StackTraceElement;") ∈ lw_tbl := lw_at lw_m1 187 rfl
theorem q337 : (Jvm.Cond.fieldLink "java/lang/Throwable" (20 : Nat) "java/lang/Throwable" "SUPPRESSED_SENTINEL" "Ljava/util/List;") ∈ lw_all := lw_g (lw_at lw_m1 188 rfl) rfl
theorem q338 : (Jvm.Cond.laysStatic "java/lang/Throwable" "SUPPRESSED_SENTINEL" "Ljava/util/List;") ∈ lw_tbl := lw_at lw_m1 189 rfl
theorem q339 : (Jvm.Cond.methodLink "java/lang/Throwable" (27 : Nat) ({ cls := "java/lang/Throwable", name := "fillInStackTrace", desc := "()Ljava/lang/Throwable;" } : Jvm.MethodName)) ∈ lw_all := lw_g (lw_at lw_m1 190 rfl) rfl
theorem q340 : (Jvm.Cond.instanceMethod ({ cls := "java/lang/Throwable", name := "fillInStackTrace", desc := "()Ljava/lang/Throwable;" } : Jvm.MethodName)) ∈ lw_all := lw_g (lw_at lw_m1 191 rfl) rfl
theorem q341 : (Jvm.Cond.sameMethod "java/lang/Throwable" "java/lang/Throwable" "fillInStackTrace" "()Ljava/lang/Throwable;") ∈ lw_all := lw_g (lw_at lw_m1 192 rfl) rfl
theorem q342 : (Jvm.Cond.selects "java/lang/ArithmeticException" ({ cls := "java/lang/Throwable", name := "fillInStackTrace", desc := "()Ljava/lang/Throwable;" } : Jvm.MethodName) ({ cls := "java/lang/Throwable", name := "fillInStackTrace", desc := "()Ljava/lang/Throwable;" } : Jvm.MethodName)) ∈ lw_all := lw_g (lw_at lw_m1 193 rfl) rfl
theorem q343 : (Jvm.Cond.selects "java/lang/ArrayIndexOutOfBoundsException" ({ cls := "java/lang/Throwable", name := "fillInStackTrace", desc := "()Ljava/lang/Throwable;" } : Jvm.MethodName) ({ cls := "java/lang/Throwable", name := "fillInStackTrace", desc := "()Ljava/lang/Throwable;" } : Jvm.MethodName)) ∈ lw_all := lw_g (lw_at lw_m1 194 rfl) rfl
theorem q344 : (Jvm.Cond.selects "java/lang/ClassCastException" ({ cls := "java/lang/Throwable", name := "fillInStackTrace", desc := "()Ljava/lang/Throwable;" } : Jvm.MethodName) ({ cls := "java/lang/Throwable", name := "fillInStackTrace", desc := "()Ljava/lang/Throwable;" } : Jvm.MethodName)) ∈ lw_all := lw_g (lw_at lw_m1 195 rfl) rfl
theorem q345 : (Jvm.Cond.selects "java/lang/NullPointerException" ({ cls := "java/lang/Throwable", name := "fillInStackTrace", desc := "()Ljava/lang/Throwable;" } : Jvm.MethodName) ({ cls := "java/lang/NullPointerException", name := "fillInStackTrace", desc := "()Ljava/lang/Throwable;" } : Jvm.MethodName)) ∈ lw_all := lw_g (lw_at lw_m1 196 rfl) rfl
theorem q346 : (Jvm.Cond.instanceMethod ({ cls := "java/lang/NullPointerException", name := "fillInStackTrace", desc := "()Ljava/lang/Throwable;" } : Jvm.MethodName)) ∈ lw_all := lw_g (lw_at lw_m1 197 rfl) rfl
theorem q347 : (Jvm.Cond.codeSync ({ cls := "java/lang/NullPointerException", name := "fillInStackTrace", desc := "()Ljava/lang/Throwable;" } : Jvm.MethodName) prog_27_method_3_code (1 : Nat) (Option.some (Jvm.ClassFile.FieldType.object "java/lang/Throwable"))) ∈ lw_all := lw_g (lw_at lw_m1 198 rfl) rfl
theorem q348 : (Jvm.Cond.methodLink "java/lang/NullPointerException" (16 : Nat) ({ cls := "java/lang/NullPointerException", name := "getExtendedNPEMessage", desc := "()Ljava/lang/String;" } : Jvm.MethodName)) ∈ lw_all := lw_g (lw_at lw_m1 199 rfl) rfl
theorem q350 : (Jvm.Cond.instanceMethod ({ cls := "java/lang/NullPointerException", name := "getExtendedNPEMessage", desc := "()Ljava/lang/String;" } : Jvm.MethodName)) ∈ lw_all := lw_g (lw_at lw_m1 201 rfl) rfl
theorem q351 : (Jvm.Cond.instantiable "java/lang/NullPointerException" (8 : Nat)) ∈ lw_all := lw_g (lw_at lw_m1 202 rfl) rfl
theorem q352 : (Jvm.Cond.native ({ cls := "java/lang/NullPointerException", name := "getExtendedNPEMessage", desc := "()Ljava/lang/String;" } : Jvm.MethodName)) ∈ lw_all := lw_g (lw_at lw_m1 203 rfl) rfl
theorem q353 : (Jvm.Cond.methodLink "java/lang/NullPointerException" (24 : Nat) ({ cls := "java/lang/RuntimeException", name := "fillInStackTrace", desc := "()Ljava/lang/Throwable;" } : Jvm.MethodName)) ∈ lw_all := lw_g (lw_at lw_m1 204 rfl) rfl
theorem q354 : (Jvm.Cond.sameMethod "java/lang/RuntimeException" "java/lang/Throwable" "fillInStackTrace" "()Ljava/lang/Throwable;") ∈ lw_all := lw_g (lw_at lw_m1 205 rfl) rfl
theorem q355 : (Jvm.Cond.declares ({ cls := "java/lang/Throwable", name := "fillInStackTrace", desc := "()Ljava/lang/Throwable;" } : Jvm.MethodName)) ∈ lw_tbl := lw_at lw_m1 206 rfl
theorem q359 : (Jvm.Cond.codeSync ({ cls := "java/lang/Throwable", name := "fillInStackTrace", desc := "()Ljava/lang/Throwable;" } : Jvm.MethodName) prog_33_method_18_code (1 : Nat) (Option.some (Jvm.ClassFile.FieldType.object "java/lang/Throwable"))) ∈ lw_all := lw_g (lw_at lw_m1 210 rfl) rfl
theorem q360 : (Jvm.Cond.methodLink "java/lang/Throwable" (202 : Nat) ({ cls := "java/lang/Throwable", name := "fillInStackTrace", desc := "(I)Ljava/lang/Throwable;" } : Jvm.MethodName)) ∈ lw_all := lw_g (lw_at lw_m1 211 rfl) rfl
theorem q362 : (Jvm.Cond.instanceMethod ({ cls := "java/lang/Throwable", name := "fillInStackTrace", desc := "(I)Ljava/lang/Throwable;" } : Jvm.MethodName)) ∈ lw_all := lw_g (lw_at lw_m1 213 rfl) rfl
theorem q363 : (Jvm.Cond.instantiable "java/lang/Throwable" (6 : Nat)) ∈ lw_all := lw_g (lw_at lw_m1 214 rfl) rfl
theorem q364 : (Jvm.Cond.native ({ cls := "java/lang/Throwable", name := "fillInStackTrace", desc := "(I)Ljava/lang/Throwable;" } : Jvm.MethodName)) ∈ lw_all := lw_g (lw_at lw_m1 215 rfl) rfl
theorem q365 : (Jvm.Cond.methodLinkNest "ArmsHouse" (486 : Nat) ({ cls := "ArmsHouse$Failure", name := "<init>", desc := "()V" } : Jvm.MethodName) "ArmsHouse") ∈ lw_tbl := lw_at lw_m1 216 rfl
theorem q366 : (Jvm.Cond.instanceMethod ({ cls := "ArmsHouse$Failure", name := "<init>", desc := "()V" } : Jvm.MethodName)) ∈ lw_all := lw_g (lw_at lw_m1 217 rfl) rfl
theorem q367 : (Jvm.Cond.code ({ cls := "ArmsHouse$Failure", name := "<init>", desc := "()V" } : Jvm.MethodName) prog_3_method_1_code (1 : Nat) (Option.none : Option Jvm.ClassFile.FieldType)) ∈ lw_all := lw_g (lw_at lw_m1 218 rfl) rfl
theorem q368 : (Jvm.Cond.methodLink "ArmsHouse$Failure" (1 : Nat) ({ cls := "java/lang/RuntimeException", name := "<init>", desc := "()V" } : Jvm.MethodName)) ∈ lw_all := lw_g (lw_at lw_m1 219 rfl) rfl
theorem q369 : (Jvm.Cond.instanceMethod ({ cls := "java/lang/RuntimeException", name := "<init>", desc := "()V" } : Jvm.MethodName)) ∈ lw_all := lw_g (lw_at lw_m1 220 rfl) rfl
theorem q370 : (Jvm.Cond.code ({ cls := "java/lang/RuntimeException", name := "<init>", desc := "()V" } : Jvm.MethodName) prog_28_method_1_code (1 : Nat) (Option.none : Option Jvm.ClassFile.FieldType)) ∈ lw_all := lw_g (lw_at lw_m1 221 rfl) rfl
theorem q371 : (Jvm.Cond.methodLink "java/lang/RuntimeException" (1 : Nat) ({ cls := "java/lang/Exception", name := "<init>", desc := "()V" } : Jvm.MethodName)) ∈ lw_all := lw_g (lw_at lw_m1 222 rfl) rfl
theorem q372 : (Jvm.Cond.instanceMethod ({ cls := "java/lang/Exception", name := "<init>", desc := "()V" } : Jvm.MethodName)) ∈ lw_all := lw_g (lw_at lw_m1 223 rfl) rfl
theorem q373 : (Jvm.Cond.code ({ cls := "java/lang/Exception", name := "<init>", desc := "()V" } : Jvm.MethodName) prog_24_method_1_code (1 : Nat) (Option.none : Option Jvm.ClassFile.FieldType)) ∈ lw_all := lw_g (lw_at lw_m1 224 rfl) rfl
theorem q374 : (Jvm.Cond.methodLink "java/lang/Exception" (1 : Nat) ({ cls := "java/lang/Throwable", name := "<init>", desc := "()V" } : Jvm.MethodName)) ∈ lw_all := lw_g (lw_at lw_m1 225 rfl) rfl
theorem q375 : (Jvm.Cond.fieldLink "java/lang/Throwable" (198 : Nat) "java/lang/Throwable" "backtrace" "Ljava/lang/Object;") ∈ lw_all := lw_g (lw_at lw_m1 226 rfl) rfl
theorem q376 : (Jvm.Cond.fieldLink "java/lang/Throwable" (31 : Nat) "java/lang/Throwable" "detailMessage" "Ljava/lang/String;") ∈ lw_all := lw_g (lw_at lw_m1 227 rfl) rfl
theorem q377 : (Jvm.Cond.fieldLink "java/lang/Throwable" (7 : Nat) "java/lang/Throwable" "cause" "Ljava/lang/Throwable;") ∈ lw_all := lw_g (lw_at lw_m1 228 rfl) rfl
theorem q378 : (Jvm.Cond.fieldLink "java/lang/Throwable" (17 : Nat) "java/lang/Throwable" "stackTrace" "[Ljava/lang/StackTraceElement;") ∈ lw_all := lw_g (lw_at lw_m1 229 rfl) rfl
theorem q379 : (Jvm.Cond.fieldLink "java/lang/Throwable" (24 : Nat) "java/lang/Throwable" "suppressedExceptions" "Ljava/util/List;") ∈ lw_all := lw_g (lw_at lw_m1 230 rfl) rfl
theorem q384 : (Jvm.Cond.lays "ArmsHouse$Failure" "java/lang/Throwable" "depth" "I") ∈ lw_all := lw_g (lw_at lw_m1 235 rfl) rfl
theorem q388 : (Jvm.Cond.classLink "ArmsHouse" (494 : Nat) "ArmsHouse$Node") ∈ lw_all := lw_g (lw_at lw_m1 239 rfl) rfl
theorem q389 : (Jvm.Cond.arrayOver (Jvm.ClassFile.FieldType.object "ArmsHouse$Node")) ∈ lw_tbl := lw_at lw_m2 0 rfl
theorem q390 : (Jvm.Cond.instantiable "ArmsHouse$Arms" (2 : Nat)) ∈ lw_all := lw_g (lw_at lw_m2 1 rfl) rfl
theorem q391 : (Jvm.Cond.classLink "ArmsHouse" (17 : Nat) "ArmsHouse$Field") ∈ lw_all := lw_g (lw_at lw_m2 2 rfl) rfl
theorem q392 : (Jvm.Cond.instantiable "ArmsHouse$Field" (6 : Nat)) ∈ lw_all := lw_g (lw_at lw_m2 3 rfl) rfl
theorem q393 : (Jvm.Cond.methodLink "ArmsHouse" (23 : Nat) ({ cls := "ArmsHouse$Field", name := "<init>", desc := "(IIIII)V" } : Jvm.MethodName)) ∈ lw_all := lw_g (lw_at lw_m2 4 rfl) rfl
theorem q394 : (Jvm.Cond.instanceMethod ({ cls := "ArmsHouse$Field", name := "<init>", desc := "(IIIII)V" } : Jvm.MethodName)) ∈ lw_all := lw_g (lw_at lw_m2 5 rfl) rfl
theorem q395 : (Jvm.Cond.code ({ cls := "ArmsHouse$Field", name := "<init>", desc := "(IIIII)V" } : Jvm.MethodName) prog_4_method_1_code (6 : Nat) (Option.none : Option Jvm.ClassFile.FieldType)) ∈ lw_all := lw_g (lw_at lw_m2 6 rfl) rfl
theorem q396 : (Jvm.Cond.methodLink "ArmsHouse$Field" (3 : Nat) ({ cls := "java/lang/Object", name := "<init>", desc := "()V" } : Jvm.MethodName)) ∈ lw_all := lw_g (lw_at lw_m2 7 rfl) rfl
theorem q397 : (Jvm.Cond.classLink "ArmsHouse$Field" (9 : Nat) "ArmsHouse$Whole") ∈ lw_all := lw_g (lw_at lw_m2 8 rfl) rfl
theorem q398 : (Jvm.Cond.instantiable "ArmsHouse$Whole" (1 : Nat)) ∈ lw_all := lw_g (lw_at lw_m2 9 rfl) rfl
theorem q399 : (Jvm.Cond.methodLinkNest "ArmsHouse$Field" (11 : Nat) ({ cls := "ArmsHouse$Whole", name := "<init>", desc := "()V" } : Jvm.MethodName) "ArmsHouse") ∈ lw_tbl := lw_at lw_m2 10 rfl
theorem q400 : (Jvm.Cond.instanceMethod ({ cls := "ArmsHouse$Whole", name := "<init>", desc := "()V" } : Jvm.MethodName)) ∈ lw_all := lw_g (lw_at lw_m2 11 rfl) rfl
theorem q401 : (Jvm.Cond.code ({ cls := "ArmsHouse$Whole", name := "<init>", desc := "()V" } : Jvm.MethodName) prog_18_method_1_code (1 : Nat) (Option.none : Option Jvm.ClassFile.FieldType)) ∈ lw_all := lw_g (lw_at lw_m2 12 rfl) rfl
theorem q402 : (Jvm.Cond.methodLink "ArmsHouse$Whole" (1 : Nat) ({ cls := "java/lang/Object", name := "<init>", desc := "()V" } : Jvm.MethodName)) ∈ lw_all := lw_g (lw_at lw_m2 13 rfl) rfl
theorem q403 : (Jvm.Cond.fieldLink "ArmsHouse$One" (74 : Nat) "ArmsHouse$Whole" "value" "J") ∈ lw_all := lw_g (lw_at lw_m2 14 rfl) rfl
theorem q404 : (Jvm.Cond.fieldLink "ArmsHouse$OneTinged" (13 : Nat) "ArmsHouse$Whole" "value" "J") ∈ lw_all := lw_g (lw_at lw_m2 15 rfl) rfl
theorem q405 : (Jvm.Cond.fieldLink "ArmsHouse$Node" (48 : Nat) "ArmsHouse$Whole" "value" "J") ∈ lw_all := lw_g (lw_at lw_m2 16 rfl) rfl
theorem q406 : (Jvm.Cond.fieldLink "ArmsHouse$Field" (37 : Nat) "ArmsHouse$Whole" "value" "J") ∈ lw_all := lw_g (lw_at lw_m2 17 rfl) rfl
theorem q407 : (Jvm.Cond.lays "ArmsHouse$Whole" "ArmsHouse$Whole" "value" "J") ∈ lw_all := lw_g (lw_at lw_m2 18 rfl) rfl
theorem q410 : (Jvm.Cond.fieldLink "ArmsHouse$Field" (18 : Nat) "ArmsHouse$Field" "sort" "I") ∈ lw_all := lw_g (lw_at lw_m2 21 rfl) rfl
theorem q411 : (Jvm.Cond.fieldLink "ArmsHouse" (186 : Nat) "ArmsHouse$Field" "sort" "I") ∈ lw_all := lw_g (lw_at lw_m2 22 rfl) rfl
theorem q412 : (Jvm.Cond.fieldLink "ArmsHouse$Field" (22 : Nat) "ArmsHouse$Field" "line" "I") ∈ lw_all := lw_g (lw_at lw_m2 23 rfl) rfl
theorem q413 : (Jvm.Cond.fieldLink "ArmsHouse" (189 : Nat) "ArmsHouse$Field" "line" "I") ∈ lw_all := lw_g (lw_at lw_m2 24 rfl) rfl
theorem q414 : (Jvm.Cond.fieldLink "ArmsHouse$Field" (25 : Nat) "ArmsHouse$Field" "number" "I") ∈ lw_all := lw_g (lw_at lw_m2 25 rfl) rfl
theorem q415 : (Jvm.Cond.fieldLink "ArmsHouse" (194 : Nat) "ArmsHouse$Field" "number" "I") ∈ lw_all := lw_g (lw_at lw_m2 26 rfl) rfl
theorem q416 : (Jvm.Cond.fieldLink "ArmsHouse$Field" (28 : Nat) "ArmsHouse$Field" "first" "I") ∈ lw_all := lw_g (lw_at lw_m2 27 rfl) rfl
theorem q417 : (Jvm.Cond.fieldLink "ArmsHouse$One" (61 : Nat) "ArmsHouse$Field" "first" "I") ∈ lw_all := lw_g (lw_at lw_m2 28 rfl) rfl
theorem q418 : (Jvm.Cond.fieldLink "ArmsHouse" (195 : Nat) "ArmsHouse$Field" "first" "I") ∈ lw_all := lw_g (lw_at lw_m2 29 rfl) rfl
theorem q419 : (Jvm.Cond.fieldLink "ArmsHouse$Field" (31 : Nat) "ArmsHouse$Field" "second" "I") ∈ lw_all := lw_g (lw_at lw_m2 30 rfl) rfl
theorem q420 : (Jvm.Cond.fieldLink "ArmsHouse$One" (104 : Nat) "ArmsHouse$Field" "second" "I") ∈ lw_all := lw_g (lw_at lw_m2 31 rfl) rfl
theorem q421 : (Jvm.Cond.fieldLink "ArmsHouse" (198 : Nat) "ArmsHouse$Field" "second" "I") ∈ lw_all := lw_g (lw_at lw_m2 32 rfl) rfl
theorem q422 : (Jvm.Cond.fieldLink "ArmsHouse$Field" (12 : Nat) "ArmsHouse$Field" "told" "LArmsHouse$Whole;") ∈ lw_all := lw_g (lw_at lw_m2 33 rfl) rfl
theorem q423 : (Jvm.Cond.lays "ArmsHouse$Field" "ArmsHouse$Field" "sort" "I") ∈ lw_all := lw_g (lw_at lw_m2 34 rfl) rfl
theorem q425 : (Jvm.Cond.lays "ArmsHouse$Field" "ArmsHouse$Field" "line" "I") ∈ lw_all := lw_g (lw_at lw_m2 36 rfl) rfl
theorem q427 : (Jvm.Cond.lays "ArmsHouse$Field" "ArmsHouse$Field" "number" "I") ∈ lw_all := lw_g (lw_at lw_m2 38 rfl) rfl
theorem q429 : (Jvm.Cond.lays "ArmsHouse$Field" "ArmsHouse$Field" "first" "I") ∈ lw_all := lw_g (lw_at lw_m2 40 rfl) rfl
theorem q431 : (Jvm.Cond.lays "ArmsHouse$Field" "ArmsHouse$Field" "second" "I") ∈ lw_all := lw_g (lw_at lw_m2 42 rfl) rfl
theorem q433 : (Jvm.Cond.laysFinal "ArmsHouse$Field" "ArmsHouse$Field" "told" "LArmsHouse$Whole;") ∈ lw_all := lw_g (lw_at lw_m2 44 rfl) rfl
theorem q436 : (Jvm.Cond.methodLink "ArmsHouse" (125 : Nat) ({ cls := "ArmsHouse$Arms", name := "<init>", desc := "(LArmsHouse$Field;I)V" } : Jvm.MethodName)) ∈ lw_all := lw_g (lw_at lw_m2 47 rfl) rfl
theorem q437 : (Jvm.Cond.instanceMethod ({ cls := "ArmsHouse$Arms", name := "<init>", desc := "(LArmsHouse$Field;I)V" } : Jvm.MethodName)) ∈ lw_all := lw_g (lw_at lw_m2 48 rfl) rfl
theorem q438 : (Jvm.Cond.code ({ cls := "ArmsHouse$Arms", name := "<init>", desc := "(LArmsHouse$Field;I)V" } : Jvm.MethodName) prog_2_method_1_code (3 : Nat) (Option.none : Option Jvm.ClassFile.FieldType)) ∈ lw_all := lw_g (lw_at lw_m2 49 rfl) rfl
theorem q439 : (Jvm.Cond.methodLink "ArmsHouse$Arms" (1 : Nat) ({ cls := "java/lang/Object", name := "<init>", desc := "()V" } : Jvm.MethodName)) ∈ lw_all := lw_g (lw_at lw_m2 50 rfl) rfl
theorem q440 : (Jvm.Cond.classLink "ArmsHouse$Arms" (13 : Nat) "ArmsHouse$Layer") ∈ lw_all := lw_g (lw_at lw_m2 51 rfl) rfl
theorem q441 : (Jvm.Cond.fieldLink "ArmsHouse$Arms" (7 : Nat) "ArmsHouse$Arms" "field" "LArmsHouse$Field;") ∈ lw_all := lw_g (lw_at lw_m2 52 rfl) rfl
theorem q442 : (Jvm.Cond.fieldLink "ArmsHouse$Plain" (19 : Nat) "ArmsHouse$Arms" "field" "LArmsHouse$Field;") ∈ lw_all := lw_g (lw_at lw_m2 53 rfl) rfl
theorem q443 : (Jvm.Cond.fieldLink "ArmsHouse" (183 : Nat) "ArmsHouse$Arms" "field" "LArmsHouse$Field;") ∈ lw_all := lw_g (lw_at lw_m2 54 rfl) rfl
theorem q444 : (Jvm.Cond.fieldLink "ArmsHouse$Arms" (15 : Nat) "ArmsHouse$Arms" "layers" "[LArmsHouse$Layer;") ∈ lw_all := lw_g (lw_at lw_m2 55 rfl) rfl
theorem q445 : (Jvm.Cond.fieldLink "ArmsHouse$Plain" (25 : Nat) "ArmsHouse$Arms" "layers" "[LArmsHouse$Layer;") ∈ lw_all := lw_g (lw_at lw_m2 56 rfl) rfl
theorem q446 : (Jvm.Cond.fieldLink "ArmsHouse$One" (39 : Nat) "ArmsHouse$Arms" "layers" "[LArmsHouse$Layer;") ∈ lw_all := lw_g (lw_at lw_m2 57 rfl) rfl
theorem q447 : (Jvm.Cond.fieldLink "ArmsHouse" (128 : Nat) "ArmsHouse$Arms" "layers" "[LArmsHouse$Layer;") ∈ lw_all := lw_g (lw_at lw_m2 58 rfl) rfl
theorem q448 : (Jvm.Cond.laysFinal "ArmsHouse$Arms" "ArmsHouse$Arms" "field" "LArmsHouse$Field;") ∈ lw_all := lw_g (lw_at lw_m2 59 rfl) rfl
theorem q450 : (Jvm.Cond.laysFinal "ArmsHouse$Arms" "ArmsHouse$Arms" "layers" "[LArmsHouse$Layer;") ∈ lw_all := lw_g (lw_at lw_m2 61 rfl) rfl
theorem q453 : (Jvm.Cond.methodLink "ArmsHouse" (518 : Nat) ({ cls := "ArmsHouse", name := "beginFamily", desc := "()V" } : Jvm.MethodName)) ∈ lw_all := lw_g (lw_at lw_m2 64 rfl) rfl
theorem q455 : (Jvm.Cond.instanceMethod ({ cls := "ArmsHouse", name := "beginFamily", desc := "()V" } : Jvm.MethodName)) ∈ lw_all := lw_g (lw_at lw_m2 66 rfl) rfl
theorem q456 : (Jvm.Cond.code ({ cls := "ArmsHouse", name := "beginFamily", desc := "()V" } : Jvm.MethodName) prog_1_method_106_code (3 : Nat) (Option.none : Option Jvm.ClassFile.FieldType)) ∈ lw_all := lw_g (lw_at lw_m2 67 rfl) rfl
theorem q457 : (Jvm.Cond.instantiable "ArmsHouse$Layer" (5 : Nat)) ∈ lw_all := lw_g (lw_at lw_m2 68 rfl) rfl
theorem q458 : (Jvm.Cond.methodLinkNest "ArmsHouse" (75 : Nat) ({ cls := "ArmsHouse$Layer", name := "<init>", desc := "()V" } : Jvm.MethodName) "ArmsHouse") ∈ lw_tbl := lw_at lw_m2 69 rfl
theorem q459 : (Jvm.Cond.instanceMethod ({ cls := "ArmsHouse$Layer", name := "<init>", desc := "()V" } : Jvm.MethodName)) ∈ lw_all := lw_g (lw_at lw_m2 70 rfl) rfl
theorem q460 : (Jvm.Cond.code ({ cls := "ArmsHouse$Layer", name := "<init>", desc := "()V" } : Jvm.MethodName) prog_6_method_1_code (1 : Nat) (Option.none : Option Jvm.ClassFile.FieldType)) ∈ lw_all := lw_g (lw_at lw_m2 71 rfl) rfl
theorem q461 : (Jvm.Cond.methodLink "ArmsHouse$Layer" (3 : Nat) ({ cls := "java/lang/Object", name := "<init>", desc := "()V" } : Jvm.MethodName)) ∈ lw_all := lw_g (lw_at lw_m2 72 rfl) rfl
theorem q462 : (Jvm.Cond.fieldLink "ArmsHouse$Layer" (12 : Nat) "ArmsHouse$Layer" "overall" "Z") ∈ lw_all := lw_g (lw_at lw_m2 73 rfl) rfl
theorem q463 : (Jvm.Cond.fieldLink "ArmsHouse" (78 : Nat) "ArmsHouse$Layer" "overall" "Z") ∈ lw_all := lw_g (lw_at lw_m2 74 rfl) rfl
theorem q464 : (Jvm.Cond.fieldLink "ArmsHouse$Layer" (16 : Nat) "ArmsHouse$Layer" "ordinary" "LArmsHouse$Ordinary;") ∈ lw_all := lw_g (lw_at lw_m2 75 rfl) rfl
theorem q465 : (Jvm.Cond.fieldLink "ArmsHouse$One" (88 : Nat) "ArmsHouse$Layer" "ordinary" "LArmsHouse$Ordinary;") ∈ lw_all := lw_g (lw_at lw_m2 76 rfl) rfl
theorem q466 : (Jvm.Cond.fieldLink "ArmsHouse" (90 : Nat) "ArmsHouse$Layer" "ordinary" "LArmsHouse$Ordinary;") ∈ lw_all := lw_g (lw_at lw_m2 77 rfl) rfl
theorem q467 : (Jvm.Cond.fieldLink "ArmsHouse$Layer" (34 : Nat) "ArmsHouse$Layer" "group" "LArmsHouse$Group;") ∈ lw_all := lw_g (lw_at lw_m2 78 rfl) rfl
theorem q468 : (Jvm.Cond.fieldLink "ArmsHouse$One" (51 : Nat) "ArmsHouse$Layer" "group" "LArmsHouse$Group;") ∈ lw_all := lw_g (lw_at lw_m2 79 rfl) rfl
theorem q469 : (Jvm.Cond.fieldLink "ArmsHouse" (97 : Nat) "ArmsHouse$Layer" "group" "LArmsHouse$Group;") ∈ lw_all := lw_g (lw_at lw_m2 80 rfl) rfl
theorem q470 : (Jvm.Cond.fieldLink "ArmsHouse$Layer" (53 : Nat) "ArmsHouse$Layer" "how" "I") ∈ lw_all := lw_g (lw_at lw_m2 81 rfl) rfl
theorem q471 : (Jvm.Cond.fieldLink "ArmsHouse$One" (107 : Nat) "ArmsHouse$Layer" "how" "I") ∈ lw_all := lw_g (lw_at lw_m2 82 rfl) rfl
theorem q472 : (Jvm.Cond.fieldLink "ArmsHouse" (100 : Nat) "ArmsHouse$Layer" "how" "I") ∈ lw_all := lw_g (lw_at lw_m2 83 rfl) rfl
theorem q473 : (Jvm.Cond.fieldLink "ArmsHouse$Layer" (56 : Nat) "ArmsHouse$Layer" "part" "I") ∈ lw_all := lw_g (lw_at lw_m2 84 rfl) rfl
theorem q474 : (Jvm.Cond.fieldLink "ArmsHouse$One" (110 : Nat) "ArmsHouse$Layer" "part" "I") ∈ lw_all := lw_g (lw_at lw_m2 85 rfl) rfl
theorem q475 : (Jvm.Cond.fieldLink "ArmsHouse" (106 : Nat) "ArmsHouse$Layer" "part" "I") ∈ lw_all := lw_g (lw_at lw_m2 86 rfl) rfl
theorem q476 : (Jvm.Cond.lays "ArmsHouse$Layer" "ArmsHouse$Layer" "overall" "Z") ∈ lw_all := lw_g (lw_at lw_m2 87 rfl) rfl
theorem q478 : (Jvm.Cond.lays "ArmsHouse$Layer" "ArmsHouse$Layer" "ordinary" "LArmsHouse$Ordinary;") ∈ lw_all := lw_g (lw_at lw_m2 89 rfl) rfl
theorem q480 : (Jvm.Cond.lays "ArmsHouse$Layer" "ArmsHouse$Layer" "group" "LArmsHouse$Group;") ∈ lw_all := lw_g (lw_at lw_m2 91 rfl) rfl
theorem q482 : (Jvm.Cond.lays "ArmsHouse$Layer" "ArmsHouse$Layer" "how" "I") ∈ lw_all := lw_g (lw_at lw_m2 93 rfl) rfl
theorem q484 : (Jvm.Cond.lays "ArmsHouse$Layer" "ArmsHouse$Layer" "part" "I") ∈ lw_all := lw_g (lw_at lw_m2 95 rfl) rfl
theorem q487 : (Jvm.Cond.classLink "ArmsHouse" (68 : Nat) "ArmsHouse$Ordinary") ∈ lw_all := lw_g (lw_at lw_m2 98 rfl) rfl
theorem q488 : (Jvm.Cond.instantiable "ArmsHouse$Ordinary" (4 : Nat)) ∈ lw_all := lw_g (lw_at lw_m2 99 rfl) rfl
theorem q489 : (Jvm.Cond.methodLink "ArmsHouse" (70 : Nat) ({ cls := "ArmsHouse$Ordinary", name := "<init>", desc := "(III)V" } : Jvm.MethodName)) ∈ lw_all := lw_g (lw_at lw_m2 100 rfl) rfl
theorem q490 : (Jvm.Cond.instanceMethod ({ cls := "ArmsHouse$Ordinary", name := "<init>", desc := "(III)V" } : Jvm.MethodName)) ∈ lw_all := lw_g (lw_at lw_m2 101 rfl) rfl
theorem q491 : (Jvm.Cond.code ({ cls := "ArmsHouse$Ordinary", name := "<init>", desc := "(III)V" } : Jvm.MethodName) prog_11_method_2_code (4 : Nat) (Option.none : Option Jvm.ClassFile.FieldType)) ∈ lw_all := lw_g (lw_at lw_m2 102 rfl) rfl
theorem q492 : (Jvm.Cond.methodLink "ArmsHouse$Ordinary" (7 : Nat) ({ cls := "java/lang/Object", name := "<init>", desc := "()V" } : Jvm.MethodName)) ∈ lw_all := lw_g (lw_at lw_m2 103 rfl) rfl
theorem q493 : (Jvm.Cond.classLink "ArmsHouse$Ordinary" (13 : Nat) "ArmsHouse$Whole") ∈ lw_all := lw_g (lw_at lw_m2 104 rfl) rfl
theorem q494 : (Jvm.Cond.methodLinkNest "ArmsHouse$Ordinary" (15 : Nat) ({ cls := "ArmsHouse$Whole", name := "<init>", desc := "()V" } : Jvm.MethodName) "ArmsHouse") ∈ lw_tbl := lw_at lw_m2 105 rfl
theorem q495 : (Jvm.Cond.fieldLink "ArmsHouse$Ordinary" (16 : Nat) "ArmsHouse$Ordinary" "ordinary" "I") ∈ lw_all := lw_g (lw_at lw_m2 106 rfl) rfl
theorem q496 : (Jvm.Cond.fieldLink "ArmsHouse$Layer" (22 : Nat) "ArmsHouse$Ordinary" "ordinary" "I") ∈ lw_all := lw_g (lw_at lw_m2 107 rfl) rfl
theorem q497 : (Jvm.Cond.fieldLink "ArmsHouse$One" (92 : Nat) "ArmsHouse$Ordinary" "ordinary" "I") ∈ lw_all := lw_g (lw_at lw_m2 108 rfl) rfl
theorem q498 : (Jvm.Cond.fieldLink "ArmsHouse" (121 : Nat) "ArmsHouse$Ordinary" "ordinary" "I") ∈ lw_all := lw_g (lw_at lw_m2 109 rfl) rfl
theorem q499 : (Jvm.Cond.fieldLink "ArmsHouse$Ordinary" (20 : Nat) "ArmsHouse$Ordinary" "line" "I") ∈ lw_all := lw_g (lw_at lw_m2 110 rfl) rfl
theorem q500 : (Jvm.Cond.fieldLink "ArmsHouse$Layer" (25 : Nat) "ArmsHouse$Ordinary" "line" "I") ∈ lw_all := lw_g (lw_at lw_m2 111 rfl) rfl
theorem q501 : (Jvm.Cond.fieldLink "ArmsHouse" (205 : Nat) "ArmsHouse$Ordinary" "line" "I") ∈ lw_all := lw_g (lw_at lw_m2 112 rfl) rfl
theorem q502 : (Jvm.Cond.fieldLink "ArmsHouse$Ordinary" (23 : Nat) "ArmsHouse$Ordinary" "tincture" "I") ∈ lw_all := lw_g (lw_at lw_m2 113 rfl) rfl
theorem q503 : (Jvm.Cond.fieldLink "ArmsHouse$Layer" (28 : Nat) "ArmsHouse$Ordinary" "tincture" "I") ∈ lw_all := lw_g (lw_at lw_m2 114 rfl) rfl
theorem q504 : (Jvm.Cond.fieldLink "ArmsHouse" (206 : Nat) "ArmsHouse$Ordinary" "tincture" "I") ∈ lw_all := lw_g (lw_at lw_m2 115 rfl) rfl
theorem q505 : (Jvm.Cond.fieldLink "ArmsHouse$Ordinary" (1 : Nat) "ArmsHouse$Ordinary" "told" "LArmsHouse$Whole;") ∈ lw_all := lw_g (lw_at lw_m2 116 rfl) rfl
theorem q506 : (Jvm.Cond.lays "ArmsHouse$Ordinary" "ArmsHouse$Ordinary" "ordinary" "I") ∈ lw_all := lw_g (lw_at lw_m2 117 rfl) rfl
theorem q508 : (Jvm.Cond.laysFinal "ArmsHouse$Ordinary" "ArmsHouse$Ordinary" "line" "I") ∈ lw_all := lw_g (lw_at lw_m2 119 rfl) rfl
theorem q510 : (Jvm.Cond.lays "ArmsHouse$Ordinary" "ArmsHouse$Ordinary" "tincture" "I") ∈ lw_all := lw_g (lw_at lw_m2 121 rfl) rfl
theorem q512 : (Jvm.Cond.laysFinal "ArmsHouse$Ordinary" "ArmsHouse$Ordinary" "told" "LArmsHouse$Whole;") ∈ lw_all := lw_g (lw_at lw_m2 123 rfl) rfl
theorem q515 : (Jvm.Cond.methodLink "ArmsHouse" (790 : Nat) ({ cls := "ArmsHouse", name := "member", desc := "(I)LArmsHouse$Arms;" } : Jvm.MethodName)) ∈ lw_all := lw_g (lw_at lw_m2 126 rfl) rfl
theorem q517 : (Jvm.Cond.instanceMethod ({ cls := "ArmsHouse", name := "member", desc := "(I)LArmsHouse$Arms;" } : Jvm.MethodName)) ∈ lw_all := lw_g (lw_at lw_m2 128 rfl) rfl
theorem q518 : (Jvm.Cond.code ({ cls := "ArmsHouse", name := "member", desc := "(I)LArmsHouse$Arms;" } : Jvm.MethodName) prog_1_method_107_code (7 : Nat) (Option.some (Jvm.ClassFile.FieldType.object "ArmsHouse$Arms"))) ∈ lw_all := lw_g (lw_at lw_m2 129 rfl) rfl
theorem q519 : (Jvm.Cond.methodLink "ArmsHouse" (670 : Nat) ({ cls := "ArmsHouse", name := "isClean", desc := "(LArmsHouse$Arms;)Z" } : Jvm.MethodName)) ∈ lw_all := lw_g (lw_at lw_m2 130 rfl) rfl
theorem q521 : (Jvm.Cond.instanceMethod ({ cls := "ArmsHouse", name := "isClean", desc := "(LArmsHouse$Arms;)Z" } : Jvm.MethodName)) ∈ lw_all := lw_g (lw_at lw_m2 132 rfl) rfl
theorem q522 : (Jvm.Cond.code ({ cls := "ArmsHouse", name := "isClean", desc := "(LArmsHouse$Arms;)Z" } : Jvm.MethodName) prog_1_method_21_code (2 : Nat) (Option.some Jvm.ClassFile.FieldType.boolean)) ∈ lw_all := lw_g (lw_at lw_m2 133 rfl) rfl
theorem q523 : (Jvm.Cond.methodLink "ArmsHouse" (226 : Nat) ({ cls := "ArmsHouse", name := "judge", desc := "(LArmsHouse$Arms;)V" } : Jvm.MethodName)) ∈ lw_all := lw_g (lw_at lw_m2 134 rfl) rfl
theorem q525 : (Jvm.Cond.instanceMethod ({ cls := "ArmsHouse", name := "judge", desc := "(LArmsHouse$Arms;)V" } : Jvm.MethodName)) ∈ lw_all := lw_g (lw_at lw_m2 136 rfl) rfl
theorem q526 : (Jvm.Cond.code ({ cls := "ArmsHouse", name := "judge", desc := "(LArmsHouse$Arms;)V" } : Jvm.MethodName) prog_1_method_20_code (5 : Nat) (Option.none : Option Jvm.ClassFile.FieldType)) ∈ lw_all := lw_g (lw_at lw_m2 137 rfl) rfl
theorem q527 : (Jvm.Cond.methodLink "ArmsHouse" (217 : Nat) ({ cls := "ArmsHouse$Field", name := "kind", desc := "()I" } : Jvm.MethodName)) ∈ lw_all := lw_g (lw_at lw_m2 138 rfl) rfl
theorem q528 : (Jvm.Cond.instanceMethod ({ cls := "ArmsHouse$Field", name := "kind", desc := "()I" } : Jvm.MethodName)) ∈ lw_all := lw_g (lw_at lw_m2 139 rfl) rfl
theorem q529 : (Jvm.Cond.selects "ArmsHouse$Field" ({ cls := "ArmsHouse$Field", name := "kind", desc := "()I" } : Jvm.MethodName) ({ cls := "ArmsHouse$Field", name := "kind", desc := "()I" } : Jvm.MethodName)) ∈ lw_all := lw_g (lw_at lw_m2 140 rfl) rfl
theorem q530 : (Jvm.Cond.code ({ cls := "ArmsHouse$Field", name := "kind", desc := "()I" } : Jvm.MethodName) prog_4_method_6_code (1 : Nat) (Option.some Jvm.ClassFile.FieldType.int)) ∈ lw_all := lw_g (lw_at lw_m2 141 rfl) rfl
theorem q531 : (Jvm.Cond.methodLinkNest "ArmsHouse$Field" (41 : Nat) ({ cls := "ArmsHouse", name := "kindOf", desc := "(I)I" } : Jvm.MethodName) "ArmsHouse") ∈ lw_tbl := lw_at lw_m2 142 rfl
theorem q532 : (Jvm.Cond.static ({ cls := "ArmsHouse", name := "kindOf", desc := "(I)I" } : Jvm.MethodName)) ∈ lw_all := lw_g (lw_at lw_m2 143 rfl) rfl
theorem q533 : (Jvm.Cond.code ({ cls := "ArmsHouse", name := "kindOf", desc := "(I)I" } : Jvm.MethodName) prog_1_method_1_code (1 : Nat) (Option.some Jvm.ClassFile.FieldType.int)) ∈ lw_all := lw_g (lw_at lw_m2 144 rfl) rfl
theorem q534 : (Jvm.Cond.methodLink "ArmsHouse" (220 : Nat) ({ cls := "ArmsHouse", name := "kindOf", desc := "(I)I" } : Jvm.MethodName)) ∈ lw_all := lw_g (lw_at lw_m2 145 rfl) rfl
theorem q535 : (Jvm.Cond.methodLink "ArmsHouse" (223 : Nat) ({ cls := "ArmsHouse", name := "lies", desc := "(III)V" } : Jvm.MethodName)) ∈ lw_all := lw_g (lw_at lw_m2 146 rfl) rfl
theorem q537 : (Jvm.Cond.instanceMethod ({ cls := "ArmsHouse", name := "lies", desc := "(III)V" } : Jvm.MethodName)) ∈ lw_all := lw_g (lw_at lw_m2 148 rfl) rfl
theorem q538 : (Jvm.Cond.code ({ cls := "ArmsHouse", name := "lies", desc := "(III)V" } : Jvm.MethodName) prog_1_method_19_code (4 : Nat) (Option.none : Option Jvm.ClassFile.FieldType)) ∈ lw_all := lw_g (lw_at lw_m2 149 rfl) rfl
theorem q539 : (Jvm.Cond.fieldLinkNest "ArmsHouse$Text" (65 : Nat) "ArmsHouse" "words" "[Ljava/lang/String;" "ArmsHouse") ∈ lw_tbl := lw_at lw_m2 150 rfl
theorem q540 : (Jvm.Cond.fieldLink "ArmsHouse" (154 : Nat) "ArmsHouse" "words" "[Ljava/lang/String;") ∈ lw_all := lw_g (lw_at lw_m2 151 rfl) rfl
theorem q541 : (Jvm.Cond.fieldLink "ArmsHouse" (113 : Nat) "ArmsHouse" "reading" "[LArmsHouse$Layer;") ∈ lw_all := lw_g (lw_at lw_m2 152 rfl) rfl
theorem q542 : (Jvm.Cond.fieldLink "ArmsHouse" (145 : Nat) "ArmsHouse" "out" "[I") ∈ lw_all := lw_g (lw_at lw_m2 153 rfl) rfl
theorem q543 : (Jvm.Cond.fieldLink "ArmsHouse" (148 : Nat) "ArmsHouse" "outs" "I") ∈ lw_all := lw_g (lw_at lw_m2 154 rfl) rfl
theorem q544 : (Jvm.Cond.fieldLink "ArmsHouse" (211 : Nat) "ArmsHouse" "breachAt" "[I") ∈ lw_all := lw_g (lw_at lw_m2 155 rfl) rfl
theorem q545 : (Jvm.Cond.fieldLinkNest "ArmsHouse$Plain" (37 : Nat) "ArmsHouse" "breachCount" "I" "ArmsHouse") ∈ lw_tbl := lw_at lw_m2 156 rfl
theorem q546 : (Jvm.Cond.fieldLink "ArmsHouse" (214 : Nat) "ArmsHouse" "breachCount" "I") ∈ lw_all := lw_g (lw_at lw_m2 157 rfl) rfl
theorem q547 : (Jvm.Cond.fieldLink "ArmsHouse" (252 : Nat) "ArmsHouse" "dots" "[I") ∈ lw_all := lw_g (lw_at lw_m2 158 rfl) rfl
theorem q548 : (Jvm.Cond.fieldLink "ArmsHouse" (255 : Nat) "ArmsHouse" "inside" "[Z") ∈ lw_all := lw_g (lw_at lw_m2 159 rfl) rfl
theorem q549 : (Jvm.Cond.fieldLink "ArmsHouse" (267 : Nat) "ArmsHouse" "struck" "[Z") ∈ lw_all := lw_g (lw_at lw_m2 160 rfl) rfl
theorem q550 : (Jvm.Cond.fieldLink "ArmsHouse" (314 : Nat) "ArmsHouse" "taken" "[I") ∈ lw_all := lw_g (lw_at lw_m2 161 rfl) rfl
theorem q551 : (Jvm.Cond.fieldLink "ArmsHouse" (274 : Nat) "ArmsHouse" "sizes" "[I") ∈ lw_all := lw_g (lw_at lw_m2 162 rfl) rfl
theorem q552 : (Jvm.Cond.fieldLink "ArmsHouse" (291 : Nat) "ArmsHouse" "xs" "[I") ∈ lw_all := lw_g (lw_at lw_m2 163 rfl) rfl
theorem q553 : (Jvm.Cond.fieldLink "ArmsHouse" (294 : Nat) "ArmsHouse" "ys" "[I") ∈ lw_all := lw_g (lw_at lw_m2 164 rfl) rfl
theorem q554 : (Jvm.Cond.fieldLink "ArmsHouse" (248 : Nat) "ArmsHouse" "drawn" "LArmsHouse$Arms;") ∈ lw_all := lw_g (lw_at lw_m2 165 rfl) rfl
theorem q555 : (Jvm.Cond.fieldLink "ArmsHouse" (303 : Nat) "ArmsHouse" "tries" "I") ∈ lw_all := lw_g (lw_at lw_m2 166 rfl) rfl
theorem q556 : (Jvm.Cond.fieldLink "ArmsHouse" (452 : Nat) "ArmsHouse" "text" "LArmsHouse$Text;") ∈ lw_all := lw_g (lw_at lw_m2 167 rfl) rfl
theorem q557 : (Jvm.Cond.fieldLink "ArmsHouse" (456 : Nat) "ArmsHouse" "tape" "[I") ∈ lw_all := lw_g (lw_at lw_m2 168 rfl) rfl
theorem q558 : (Jvm.Cond.fieldLink "ArmsHouse" (534 : Nat) "ArmsHouse" "taped" "I") ∈ lw_all := lw_g (lw_at lw_m2 169 rfl) rfl
theorem q559 : (Jvm.Cond.fieldLink "ArmsHouse" (541 : Nat) "ArmsHouse" "fault" "I") ∈ lw_all := lw_g (lw_at lw_m2 170 rfl) rfl
theorem q560 : (Jvm.Cond.fieldLink "ArmsHouse" (459 : Nat) "ArmsHouse" "arms" "[LArmsHouse$Arms;") ∈ lw_all := lw_g (lw_at lw_m2 171 rfl) rfl
theorem q561 : (Jvm.Cond.fieldLink "ArmsHouse" (545 : Nat) "ArmsHouse" "armsCount" "I") ∈ lw_all := lw_g (lw_at lw_m2 172 rfl) rfl
theorem q562 : (Jvm.Cond.fieldLink "ArmsHouse" (465 : Nat) "ArmsHouse" "persons" "[LArmsHouse$Person;") ∈ lw_all := lw_g (lw_at lw_m2 173 rfl) rfl
theorem q563 : (Jvm.Cond.fieldLink "ArmsHouse" (596 : Nat) "ArmsHouse" "personCount" "I") ∈ lw_all := lw_g (lw_at lw_m2 174 rfl) rfl
theorem q564 : (Jvm.Cond.fieldLink "ArmsHouse" (469 : Nat) "ArmsHouse" "quarters" "[I") ∈ lw_all := lw_g (lw_at lw_m2 175 rfl) rfl
theorem q565 : (Jvm.Cond.fieldLink "ArmsHouse" (472 : Nat) "ArmsHouse" "quarterCount" "[I") ∈ lw_all := lw_g (lw_at lw_m2 176 rfl) rfl
theorem q566 : (Jvm.Cond.fieldLink "ArmsHouse" (654 : Nat) "ArmsHouse" "clashing" "I") ∈ lw_all := lw_g (lw_at lw_m2 177 rfl) rfl
theorem q567 : (Jvm.Cond.fieldLink "ArmsHouse" (475 : Nat) "ArmsHouse" "entered" "[LArmsHouse$Arms;") ∈ lw_all := lw_g (lw_at lw_m2 178 rfl) rfl
theorem q568 : (Jvm.Cond.fieldLink "ArmsHouse" (478 : Nat) "ArmsHouse" "from" "[I") ∈ lw_all := lw_g (lw_at lw_m2 179 rfl) rfl
theorem q569 : (Jvm.Cond.fieldLink "ArmsHouse" (481 : Nat) "ArmsHouse" "till" "[I") ∈ lw_all := lw_g (lw_at lw_m2 180 rfl) rfl
theorem q570 : (Jvm.Cond.fieldLink "ArmsHouse" (660 : Nat) "ArmsHouse" "entries" "I") ∈ lw_all := lw_g (lw_at lw_m2 181 rfl) rfl
theorem q571 : (Jvm.Cond.fieldLink "ArmsHouse" (663 : Nat) "ArmsHouse" "conflicting" "I") ∈ lw_all := lw_g (lw_at lw_m2 182 rfl) rfl
theorem q572 : (Jvm.Cond.fieldLinkNest "ArmsHouse$Node" (44 : Nat) "ArmsHouse" "failure" "LArmsHouse$Failure;" "ArmsHouse") ∈ lw_tbl := lw_at lw_m2 183 rfl
theorem q573 : (Jvm.Cond.fieldLink "ArmsHouse" (487 : Nat) "ArmsHouse" "failure" "LArmsHouse$Failure;") ∈ lw_all := lw_g (lw_at lw_m2 184 rfl) rfl
theorem q574 : (Jvm.Cond.fieldLinkNest "ArmsHouse$Node" (36 : Nat) "ArmsHouse" "failedKind" "I" "ArmsHouse") ∈ lw_tbl := lw_at lw_m2 185 rfl
theorem q575 : (Jvm.Cond.fieldLink "ArmsHouse" (768 : Nat) "ArmsHouse" "failedKind" "I") ∈ lw_all := lw_g (lw_at lw_m2 186 rfl) rfl
theorem q576 : (Jvm.Cond.fieldLinkNest "ArmsHouse$Node" (41 : Nat) "ArmsHouse" "failedPlace" "I" "ArmsHouse") ∈ lw_tbl := lw_at lw_m2 187 rfl
theorem q577 : (Jvm.Cond.fieldLink "ArmsHouse" (491 : Nat) "ArmsHouse" "failedPlace" "I") ∈ lw_all := lw_g (lw_at lw_m2 188 rfl) rfl
theorem q578 : (Jvm.Cond.fieldLink "ArmsHouse" (698 : Nat) "ArmsHouse" "parts" "I") ∈ lw_all := lw_g (lw_at lw_m2 189 rfl) rfl
theorem q579 : (Jvm.Cond.fieldLink "ArmsHouse" (496 : Nat) "ArmsHouse" "clauses" "[LArmsHouse$Node;") ∈ lw_all := lw_g (lw_at lw_m2 190 rfl) rfl
theorem q580 : (Jvm.Cond.fieldLink "ArmsHouse" (500 : Nat) "ArmsHouse" "clauseAt" "[I") ∈ lw_all := lw_g (lw_at lw_m2 191 rfl) rfl
theorem q581 : (Jvm.Cond.fieldLink "ArmsHouse" (757 : Nat) "ArmsHouse" "clauseCount" "I") ∈ lw_all := lw_g (lw_at lw_m2 192 rfl) rfl
theorem q582 : (Jvm.Cond.fieldLink "ArmsHouse" (788 : Nat) "ArmsHouse" "value" "J") ∈ lw_all := lw_g (lw_at lw_m2 193 rfl) rfl
theorem q583 : (Jvm.Cond.fieldLink "ArmsHouse" (773 : Nat) "ArmsHouse" "working" "I") ∈ lw_all := lw_g (lw_at lw_m2 194 rfl) rfl
theorem q584 : (Jvm.Cond.fieldLink "ArmsHouse" (764 : Nat) "ArmsHouse" "worked" "J") ∈ lw_all := lw_g (lw_at lw_m2 195 rfl) rfl
theorem q585 : (Jvm.Cond.fieldLink "ArmsHouse" (503 : Nat) "ArmsHouse" "askedAt" "I") ∈ lw_all := lw_g (lw_at lw_m2 196 rfl) rfl
theorem q586 : (Jvm.Cond.fieldLink "ArmsHouse" (506 : Nat) "ArmsHouse" "alone" "LArmsHouse$Arms;") ∈ lw_all := lw_g (lw_at lw_m2 197 rfl) rfl
theorem q587 : (Jvm.Cond.fieldLink "ArmsHouse" (509 : Nat) "ArmsHouse" "withOrdinary" "LArmsHouse$Arms;") ∈ lw_all := lw_g (lw_at lw_m2 198 rfl) rfl
theorem q588 : (Jvm.Cond.fieldLink "ArmsHouse" (512 : Nat) "ArmsHouse" "clean" "[I") ∈ lw_all := lw_g (lw_at lw_m2 199 rfl) rfl
theorem q589 : (Jvm.Cond.fieldLink "ArmsHouse" (793 : Nat) "ArmsHouse" "cleanCount" "I") ∈ lw_all := lw_g (lw_at lw_m2 200 rfl) rfl
theorem q590 : (Jvm.Cond.fieldLink "ArmsHouse" (515 : Nat) "ArmsHouse" "least" "I") ∈ lw_all := lw_g (lw_at lw_m2 201 rfl) rfl
theorem q591 : (Jvm.Cond.laysFinal "ArmsHouse" "ArmsHouse" "words" "[Ljava/lang/String;") ∈ lw_all := lw_g (lw_at lw_m2 202 rfl) rfl
theorem q593 : (Jvm.Cond.laysFinal "ArmsHouse" "ArmsHouse" "reading" "[LArmsHouse$Layer;") ∈ lw_all := lw_g (lw_at lw_m2 204 rfl) rfl
theorem q595 : (Jvm.Cond.laysFinal "ArmsHouse" "ArmsHouse" "out" "[I") ∈ lw_all := lw_g (lw_at lw_m2 206 rfl) rfl
theorem q597 : (Jvm.Cond.lays "ArmsHouse" "ArmsHouse" "outs" "I") ∈ lw_all := lw_g (lw_at lw_m2 208 rfl) rfl
theorem q599 : (Jvm.Cond.laysFinal "ArmsHouse" "ArmsHouse" "breachAt" "[I") ∈ lw_all := lw_g (lw_at lw_m2 210 rfl) rfl
theorem q601 : (Jvm.Cond.lays "ArmsHouse" "ArmsHouse" "breachCount" "I") ∈ lw_all := lw_g (lw_at lw_m2 212 rfl) rfl
theorem q603 : (Jvm.Cond.laysFinal "ArmsHouse" "ArmsHouse" "dots" "[I") ∈ lw_all := lw_g (lw_at lw_m2 214 rfl) rfl
theorem q605 : (Jvm.Cond.laysFinal "ArmsHouse" "ArmsHouse" "inside" "[Z") ∈ lw_all := lw_g (lw_at lw_m2 216 rfl) rfl
theorem q607 : (Jvm.Cond.laysFinal "ArmsHouse" "ArmsHouse" "struck" "[Z") ∈ lw_all := lw_g (lw_at lw_m2 218 rfl) rfl
theorem q609 : (Jvm.Cond.laysFinal "ArmsHouse" "ArmsHouse" "taken" "[I") ∈ lw_all := lw_g (lw_at lw_m2 220 rfl) rfl
theorem q611 : (Jvm.Cond.laysFinal "ArmsHouse" "ArmsHouse" "sizes" "[I") ∈ lw_all := lw_g (lw_at lw_m2 222 rfl) rfl
theorem q613 : (Jvm.Cond.laysFinal "ArmsHouse" "ArmsHouse" "xs" "[I") ∈ lw_all := lw_g (lw_at lw_m2 224 rfl) rfl
theorem q615 : (Jvm.Cond.laysFinal "ArmsHouse" "ArmsHouse" "ys" "[I") ∈ lw_all := lw_g (lw_at lw_m2 226 rfl) rfl
theorem q617 : (Jvm.Cond.lays "ArmsHouse" "ArmsHouse" "drawn" "LArmsHouse$Arms;") ∈ lw_all := lw_g (lw_at lw_m2 228 rfl) rfl
theorem q619 : (Jvm.Cond.lays "ArmsHouse" "ArmsHouse" "tries" "I") ∈ lw_all := lw_g (lw_at lw_m2 230 rfl) rfl
theorem q621 : (Jvm.Cond.laysFinal "ArmsHouse" "ArmsHouse" "text" "LArmsHouse$Text;") ∈ lw_all := lw_g (lw_at lw_m2 232 rfl) rfl
theorem q623 : (Jvm.Cond.laysFinal "ArmsHouse" "ArmsHouse" "tape" "[I") ∈ lw_all := lw_g (lw_at lw_m2 234 rfl) rfl
theorem q625 : (Jvm.Cond.lays "ArmsHouse" "ArmsHouse" "taped" "I") ∈ lw_all := lw_g (lw_at lw_m2 236 rfl) rfl
theorem q627 : (Jvm.Cond.lays "ArmsHouse" "ArmsHouse" "fault" "I") ∈ lw_all := lw_g (lw_at lw_m2 238 rfl) rfl
theorem q629 : (Jvm.Cond.laysFinal "ArmsHouse" "ArmsHouse" "arms" "[LArmsHouse$Arms;") ∈ lw_all := lw_g (lw_at lw_m3 0 rfl) rfl
theorem q631 : (Jvm.Cond.lays "ArmsHouse" "ArmsHouse" "armsCount" "I") ∈ lw_all := lw_g (lw_at lw_m3 2 rfl) rfl
theorem q633 : (Jvm.Cond.laysFinal "ArmsHouse" "ArmsHouse" "persons" "[LArmsHouse$Person;") ∈ lw_all := lw_g (lw_at lw_m3 4 rfl) rfl
theorem q635 : (Jvm.Cond.lays "ArmsHouse" "ArmsHouse" "personCount" "I") ∈ lw_all := lw_g (lw_at lw_m3 6 rfl) rfl
theorem q637 : (Jvm.Cond.laysFinal "ArmsHouse" "ArmsHouse" "quarters" "[I") ∈ lw_all := lw_g (lw_at lw_m3 8 rfl) rfl
theorem q639 : (Jvm.Cond.laysFinal "ArmsHouse" "ArmsHouse" "quarterCount" "[I") ∈ lw_all := lw_g (lw_at lw_m3 10 rfl) rfl
theorem q641 : (Jvm.Cond.lays "ArmsHouse" "ArmsHouse" "clashing" "I") ∈ lw_all := lw_g (lw_at lw_m3 12 rfl) rfl
theorem q643 : (Jvm.Cond.laysFinal "ArmsHouse" "ArmsHouse" "entered" "[LArmsHouse$Arms;") ∈ lw_all := lw_g (lw_at lw_m3 14 rfl) rfl
theorem q645 : (Jvm.Cond.laysFinal "ArmsHouse" "ArmsHouse" "from" "[I") ∈ lw_all := lw_g (lw_at lw_m3 16 rfl) rfl
theorem q647 : (Jvm.Cond.laysFinal "ArmsHouse" "ArmsHouse" "till" "[I") ∈ lw_all := lw_g (lw_at lw_m3 18 rfl) rfl
theorem q649 : (Jvm.Cond.lays "ArmsHouse" "ArmsHouse" "entries" "I") ∈ lw_all := lw_g (lw_at lw_m3 20 rfl) rfl
theorem q651 : (Jvm.Cond.lays "ArmsHouse" "ArmsHouse" "conflicting" "I") ∈ lw_all := lw_g (lw_at lw_m3 22 rfl) rfl
theorem q653 : (Jvm.Cond.laysFinal "ArmsHouse" "ArmsHouse" "failure" "LArmsHouse$Failure;") ∈ lw_all := lw_g (lw_at lw_m3 24 rfl) rfl
theorem q655 : (Jvm.Cond.lays "ArmsHouse" "ArmsHouse" "failedKind" "I") ∈ lw_all := lw_g (lw_at lw_m3 26 rfl) rfl
theorem q657 : (Jvm.Cond.lays "ArmsHouse" "ArmsHouse" "failedPlace" "I") ∈ lw_all := lw_g (lw_at lw_m3 28 rfl) rfl
theorem q659 : (Jvm.Cond.lays "ArmsHouse" "ArmsHouse" "parts" "I") ∈ lw_all := lw_g (lw_at lw_m3 30 rfl) rfl
theorem q661 : (Jvm.Cond.laysFinal "ArmsHouse" "ArmsHouse" "clauses" "[LArmsHouse$Node;") ∈ lw_all := lw_g (lw_at lw_m3 32 rfl) rfl
theorem q663 : (Jvm.Cond.laysFinal "ArmsHouse" "ArmsHouse" "clauseAt" "[I") ∈ lw_all := lw_g (lw_at lw_m3 34 rfl) rfl
theorem q665 : (Jvm.Cond.lays "ArmsHouse" "ArmsHouse" "clauseCount" "I") ∈ lw_all := lw_g (lw_at lw_m3 36 rfl) rfl
theorem q667 : (Jvm.Cond.lays "ArmsHouse" "ArmsHouse" "value" "J") ∈ lw_all := lw_g (lw_at lw_m3 38 rfl) rfl
theorem q669 : (Jvm.Cond.lays "ArmsHouse" "ArmsHouse" "working" "I") ∈ lw_all := lw_g (lw_at lw_m3 40 rfl) rfl
theorem q671 : (Jvm.Cond.lays "ArmsHouse" "ArmsHouse" "worked" "J") ∈ lw_all := lw_g (lw_at lw_m3 42 rfl) rfl
theorem q673 : (Jvm.Cond.lays "ArmsHouse" "ArmsHouse" "askedAt" "I") ∈ lw_all := lw_g (lw_at lw_m3 44 rfl) rfl
theorem q675 : (Jvm.Cond.laysFinal "ArmsHouse" "ArmsHouse" "alone" "LArmsHouse$Arms;") ∈ lw_all := lw_g (lw_at lw_m3 46 rfl) rfl
theorem q677 : (Jvm.Cond.laysFinal "ArmsHouse" "ArmsHouse" "withOrdinary" "LArmsHouse$Arms;") ∈ lw_all := lw_g (lw_at lw_m3 48 rfl) rfl
theorem q679 : (Jvm.Cond.laysFinal "ArmsHouse" "ArmsHouse" "clean" "[I") ∈ lw_all := lw_g (lw_at lw_m3 50 rfl) rfl
theorem q681 : (Jvm.Cond.lays "ArmsHouse" "ArmsHouse" "cleanCount" "I") ∈ lw_all := lw_g (lw_at lw_m3 52 rfl) rfl
theorem q683 : (Jvm.Cond.lays "ArmsHouse" "ArmsHouse" "least" "I") ∈ lw_all := lw_g (lw_at lw_m3 54 rfl) rfl
theorem q686 : (Jvm.Cond.methodLink "ArmsHouseLaw" (15 : Nat) ({ cls := "ArmsHouse", name := "feed", desc := "(JI)I" } : Jvm.MethodName)) ∈ lw_all := lw_g (lw_at lw_m3 57 rfl) rfl
theorem q687 : (Jvm.Cond.instanceMethod ({ cls := "ArmsHouse", name := "feed", desc := "(JI)I" } : Jvm.MethodName)) ∈ lw_all := lw_g (lw_at lw_m3 58 rfl) rfl
theorem q688 : (Jvm.Cond.selects "ArmsHouse" ({ cls := "ArmsHouse", name := "feed", desc := "(JI)I" } : Jvm.MethodName) ({ cls := "ArmsHouse", name := "feed", desc := "(JI)I" } : Jvm.MethodName)) ∈ lw_all := lw_g (lw_at lw_m3 59 rfl) rfl
theorem q689 : (Jvm.Cond.code ({ cls := "ArmsHouse", name := "feed", desc := "(JI)I" } : Jvm.MethodName) prog_1_method_42_code (5 : Nat) (Option.some Jvm.ClassFile.FieldType.int)) ∈ lw_all := lw_g (lw_at lw_m3 60 rfl) rfl
theorem q690 : (Jvm.Cond.constantLong "ArmsHouse" (532 : Nat) (8 : Int64)) ∈ lw_all := lw_g (lw_at lw_m3 61 rfl) rfl
theorem q691 : (Jvm.Cond.methodLink "ArmsHouse" (523 : Nat) ({ cls := "ArmsHouse", name := "in", desc := "(JJJ)Z" } : Jvm.MethodName)) ∈ lw_all := lw_g (lw_at lw_m3 62 rfl) rfl
theorem q692 : (Jvm.Cond.static ({ cls := "ArmsHouse", name := "in", desc := "(JJJ)Z" } : Jvm.MethodName)) ∈ lw_all := lw_g (lw_at lw_m3 63 rfl) rfl
theorem q693 : (Jvm.Cond.code ({ cls := "ArmsHouse", name := "in", desc := "(JJJ)Z" } : Jvm.MethodName) prog_1_method_38_code (6 : Nat) (Option.some Jvm.ClassFile.FieldType.boolean)) ∈ lw_all := lw_g (lw_at lw_m3 64 rfl) rfl
theorem q694 : (Jvm.Cond.methodLink "ArmsHouseLaw" (20 : Nat) ({ cls := "ArmsHouse", name := "cut", desc := "(I)I" } : Jvm.MethodName)) ∈ lw_all := lw_g (lw_at lw_m3 65 rfl) rfl
theorem q695 : (Jvm.Cond.instanceMethod ({ cls := "ArmsHouse", name := "cut", desc := "(I)I" } : Jvm.MethodName)) ∈ lw_all := lw_g (lw_at lw_m3 66 rfl) rfl
theorem q696 : (Jvm.Cond.selects "ArmsHouse" ({ cls := "ArmsHouse", name := "cut", desc := "(I)I" } : Jvm.MethodName) ({ cls := "ArmsHouse", name := "cut", desc := "(I)I" } : Jvm.MethodName)) ∈ lw_all := lw_g (lw_at lw_m3 67 rfl) rfl
theorem q697 : (Jvm.Cond.code ({ cls := "ArmsHouse", name := "cut", desc := "(I)I" } : Jvm.MethodName) prog_1_method_43_code (3 : Nat) (Option.some Jvm.ClassFile.FieldType.int)) ∈ lw_all := lw_g (lw_at lw_m3 68 rfl) rfl
theorem q698 : (Jvm.Cond.methodLink "ArmsHouseLaw" (25 : Nat) ({ cls := "ArmsHouse", name := "turn", desc := "()I" } : Jvm.MethodName)) ∈ lw_all := lw_g (lw_at lw_m3 69 rfl) rfl
theorem q699 : (Jvm.Cond.instanceMethod ({ cls := "ArmsHouse", name := "turn", desc := "()I" } : Jvm.MethodName)) ∈ lw_all := lw_g (lw_at lw_m3 70 rfl) rfl
theorem q700 : (Jvm.Cond.selects "ArmsHouse" ({ cls := "ArmsHouse", name := "turn", desc := "()I" } : Jvm.MethodName) ({ cls := "ArmsHouse", name := "turn", desc := "()I" } : Jvm.MethodName)) ∈ lw_all := lw_g (lw_at lw_m3 71 rfl) rfl
theorem q701 : (Jvm.Cond.code ({ cls := "ArmsHouse", name := "turn", desc := "()I" } : Jvm.MethodName) prog_1_method_44_code (1 : Nat) (Option.some Jvm.ClassFile.FieldType.int)) ∈ lw_all := lw_g (lw_at lw_m3 72 rfl) rfl
theorem q702 : (Jvm.Cond.methodLink "ArmsHouse" (131 : Nat) ({ cls := "java/lang/System", name := "arraycopy", desc := "(Ljava/lang/Object;ILjava/lang/Object;II)V" } : Jvm.MethodName)) ∈ lw_all := lw_g (lw_at lw_m3 73 rfl) rfl
theorem q703 : (Jvm.Cond.static ({ cls := "java/lang/System", name := "arraycopy", desc := "(Ljava/lang/Object;ILjava/lang/Object;II)V" } : Jvm.MethodName)) ∈ lw_all := lw_g (lw_at lw_m3 74 rfl) rfl
theorem q704 : (Jvm.Cond.native ({ cls := "java/lang/System", name := "arraycopy", desc := "(Ljava/lang/Object;ILjava/lang/Object;II)V" } : Jvm.MethodName)) ∈ lw_all := lw_g (lw_at lw_m3 75 rfl) rfl
theorem q705 : (Jvm.Cond.methodLink "ArmsHouseLaw" (30 : Nat) ({ cls := "ArmsHouse", name := "out", desc := "(I)I" } : Jvm.MethodName)) ∈ lw_all := lw_g (lw_at lw_m3 76 rfl) rfl
theorem q706 : (Jvm.Cond.instanceMethod ({ cls := "ArmsHouse", name := "out", desc := "(I)I" } : Jvm.MethodName)) ∈ lw_all := lw_g (lw_at lw_m3 77 rfl) rfl
theorem q707 : (Jvm.Cond.selects "ArmsHouse" ({ cls := "ArmsHouse", name := "out", desc := "(I)I" } : Jvm.MethodName) ({ cls := "ArmsHouse", name := "out", desc := "(I)I" } : Jvm.MethodName)) ∈ lw_all := lw_g (lw_at lw_m3 78 rfl) rfl
theorem q708 : (Jvm.Cond.code ({ cls := "ArmsHouse", name := "out", desc := "(I)I" } : Jvm.MethodName) prog_1_method_45_code (2 : Nat) (Option.some Jvm.ClassFile.FieldType.int)) ∈ lw_all := lw_g (lw_at lw_m3 79 rfl) rfl
theorem q709 : (Jvm.Cond.methodLink "ArmsHouseLaw" (34 : Nat) ({ cls := "ArmsHouse", name := "blazon", desc := "()I" } : Jvm.MethodName)) ∈ lw_all := lw_g (lw_at lw_m3 80 rfl) rfl
theorem q710 : (Jvm.Cond.instanceMethod ({ cls := "ArmsHouse", name := "blazon", desc := "()I" } : Jvm.MethodName)) ∈ lw_all := lw_g (lw_at lw_m3 81 rfl) rfl
theorem q711 : (Jvm.Cond.selects "ArmsHouse" ({ cls := "ArmsHouse", name := "blazon", desc := "()I" } : Jvm.MethodName) ({ cls := "ArmsHouse", name := "blazon", desc := "()I" } : Jvm.MethodName)) ∈ lw_all := lw_g (lw_at lw_m3 82 rfl) rfl
theorem q712 : (Jvm.Cond.code ({ cls := "ArmsHouse", name := "blazon", desc := "()I" } : Jvm.MethodName) prog_1_method_49_code (2 : Nat) (Option.some Jvm.ClassFile.FieldType.int)) ∈ lw_all := lw_g (lw_at lw_m3 83 rfl) rfl
theorem q713 : (Jvm.Cond.methodLink "ArmsHouse" (548 : Nat) ({ cls := "ArmsHouse", name := "take", desc := "()V" } : Jvm.MethodName)) ∈ lw_all := lw_g (lw_at lw_m3 84 rfl) rfl
theorem q715 : (Jvm.Cond.instanceMethod ({ cls := "ArmsHouse", name := "take", desc := "()V" } : Jvm.MethodName)) ∈ lw_all := lw_g (lw_at lw_m3 86 rfl) rfl
theorem q716 : (Jvm.Cond.code ({ cls := "ArmsHouse", name := "take", desc := "()V" } : Jvm.MethodName) prog_1_method_46_code (1 : Nat) (Option.none : Option Jvm.ClassFile.FieldType)) ∈ lw_all := lw_g (lw_at lw_m3 87 rfl) rfl
theorem q717 : (Jvm.Cond.methodLink "ArmsHouse" (537 : Nat) ({ cls := "ArmsHouse$Text", name := "cut", desc := "([II)V" } : Jvm.MethodName)) ∈ lw_all := lw_g (lw_at lw_m3 88 rfl) rfl
theorem q718 : (Jvm.Cond.instanceMethod ({ cls := "ArmsHouse$Text", name := "cut", desc := "([II)V" } : Jvm.MethodName)) ∈ lw_all := lw_g (lw_at lw_m3 89 rfl) rfl
theorem q719 : (Jvm.Cond.selects "ArmsHouse$Text" ({ cls := "ArmsHouse$Text", name := "cut", desc := "([II)V" } : Jvm.MethodName) ({ cls := "ArmsHouse$Text", name := "cut", desc := "([II)V" } : Jvm.MethodName)) ∈ lw_all := lw_g (lw_at lw_m3 90 rfl) rfl
theorem q720 : (Jvm.Cond.code ({ cls := "ArmsHouse$Text", name := "cut", desc := "([II)V" } : Jvm.MethodName) prog_14_method_4_code (5 : Nat) (Option.none : Option Jvm.ClassFile.FieldType)) ∈ lw_all := lw_g (lw_at lw_m3 91 rfl) rfl
theorem q721 : (Jvm.Cond.methodLink "ArmsHouse$Text" (28 : Nat) ({ cls := "java/lang/System", name := "arraycopy", desc := "(Ljava/lang/Object;ILjava/lang/Object;II)V" } : Jvm.MethodName)) ∈ lw_all := lw_g (lw_at lw_m3 92 rfl) rfl
theorem q722 : (Jvm.Cond.methodLink "ArmsHouse$Text" (50 : Nat) ({ cls := "ArmsHouse$Text", name := "token", desc := "(I)I" } : Jvm.MethodName)) ∈ lw_all := lw_g (lw_at lw_m3 93 rfl) rfl
theorem q724 : (Jvm.Cond.instanceMethod ({ cls := "ArmsHouse$Text", name := "token", desc := "(I)I" } : Jvm.MethodName)) ∈ lw_all := lw_g (lw_at lw_m3 95 rfl) rfl
theorem q725 : (Jvm.Cond.code ({ cls := "ArmsHouse$Text", name := "token", desc := "(I)I" } : Jvm.MethodName) prog_14_method_5_code (5 : Nat) (Option.some Jvm.ClassFile.FieldType.int)) ∈ lw_all := lw_g (lw_at lw_m3 96 rfl) rfl
theorem q726 : (Jvm.Cond.methodLink "ArmsHouse$Text" (54 : Nat) ({ cls := "ArmsHouse$Text", name := "isLetter", desc := "(I)Z" } : Jvm.MethodName)) ∈ lw_all := lw_g (lw_at lw_m3 97 rfl) rfl
theorem q728 : (Jvm.Cond.instanceMethod ({ cls := "ArmsHouse$Text", name := "isLetter", desc := "(I)Z" } : Jvm.MethodName)) ∈ lw_all := lw_g (lw_at lw_m3 99 rfl) rfl
theorem q729 : (Jvm.Cond.code ({ cls := "ArmsHouse$Text", name := "isLetter", desc := "(I)Z" } : Jvm.MethodName) prog_14_method_2_code (2 : Nat) (Option.some Jvm.ClassFile.FieldType.boolean)) ∈ lw_all := lw_g (lw_at lw_m3 100 rfl) rfl
theorem q730 : (Jvm.Cond.methodLink "ArmsHouse$Text" (58 : Nat) ({ cls := "ArmsHouse$Text", name := "word", desc := "(II)I" } : Jvm.MethodName)) ∈ lw_all := lw_g (lw_at lw_m3 101 rfl) rfl
theorem q732 : (Jvm.Cond.instanceMethod ({ cls := "ArmsHouse$Text", name := "word", desc := "(II)I" } : Jvm.MethodName)) ∈ lw_all := lw_g (lw_at lw_m3 103 rfl) rfl
theorem q733 : (Jvm.Cond.code ({ cls := "ArmsHouse$Text", name := "word", desc := "(II)I" } : Jvm.MethodName) prog_14_method_6_code (6 : Nat) (Option.some Jvm.ClassFile.FieldType.int)) ∈ lw_all := lw_g (lw_at lw_m3 104 rfl) rfl
theorem q734 : (Jvm.Cond.methodLink "ArmsHouse$Text" (69 : Nat) ({ cls := "java/lang/String", name := "length", desc := "()I" } : Jvm.MethodName)) ∈ lw_all := lw_g (lw_at lw_m3 105 rfl) rfl
theorem q735 : (Jvm.Cond.instanceMethod ({ cls := "java/lang/String", name := "length", desc := "()I" } : Jvm.MethodName)) ∈ lw_all := lw_g (lw_at lw_m3 106 rfl) rfl
theorem q736 : (Jvm.Cond.selects "java/lang/String" ({ cls := "java/lang/String", name := "length", desc := "()I" } : Jvm.MethodName) ({ cls := "java/lang/String", name := "length", desc := "()I" } : Jvm.MethodName)) ∈ lw_all := lw_g (lw_at lw_m3 107 rfl) rfl
theorem q737 : (Jvm.Cond.code ({ cls := "java/lang/String", name := "length", desc := "()I" } : Jvm.MethodName) prog_29_method_54_code (1 : Nat) (Option.some Jvm.ClassFile.FieldType.int)) ∈ lw_all := lw_g (lw_at lw_m3 108 rfl) rfl
theorem q738 : (Jvm.Cond.methodLink "java/lang/String" (335 : Nat) ({ cls := "java/lang/String", name := "coder", desc := "()B" } : Jvm.MethodName)) ∈ lw_all := lw_g (lw_at lw_m3 109 rfl) rfl
theorem q739 : (Jvm.Cond.instanceMethod ({ cls := "java/lang/String", name := "coder", desc := "()B" } : Jvm.MethodName)) ∈ lw_all := lw_g (lw_at lw_m3 110 rfl) rfl
theorem q740 : (Jvm.Cond.selects "java/lang/String" ({ cls := "java/lang/String", name := "coder", desc := "()B" } : Jvm.MethodName) ({ cls := "java/lang/String", name := "coder", desc := "()B" } : Jvm.MethodName)) ∈ lw_all := lw_g (lw_at lw_m3 111 rfl) rfl
theorem q741 : (Jvm.Cond.code ({ cls := "java/lang/String", name := "coder", desc := "()B" } : Jvm.MethodName) prog_29_method_152_code (1 : Nat) (Option.some Jvm.ClassFile.FieldType.byte)) ∈ lw_all := lw_g (lw_at lw_m3 112 rfl) rfl
theorem q742 : (Jvm.Cond.fieldLink "java/lang/String" (38 : Nat) "java/lang/String" "COMPACT_STRINGS" "Z") ∈ lw_all := lw_g (lw_at lw_m3 113 rfl) rfl
theorem q743 : (Jvm.Cond.laysStatic "java/lang/String" "COMPACT_STRINGS" "Z") ∈ lw_tbl := lw_at lw_m3 114 rfl
theorem q744 : (Jvm.Cond.methodLink "ArmsHouse$Text" (75 : Nat) ({ cls := "java/lang/String", name := "charAt", desc := "(I)C" } : Jvm.MethodName)) ∈ lw_all := lw_g (lw_at lw_m3 115 rfl) rfl
theorem q745 : (Jvm.Cond.instanceMethod ({ cls := "java/lang/String", name := "charAt", desc := "(I)C" } : Jvm.MethodName)) ∈ lw_all := lw_g (lw_at lw_m3 116 rfl) rfl
theorem q746 : (Jvm.Cond.selects "java/lang/String" ({ cls := "java/lang/String", name := "charAt", desc := "(I)C" } : Jvm.MethodName) ({ cls := "java/lang/String", name := "charAt", desc := "(I)C" } : Jvm.MethodName)) ∈ lw_all := lw_g (lw_at lw_m3 117 rfl) rfl
theorem q747 : (Jvm.Cond.code ({ cls := "java/lang/String", name := "charAt", desc := "(I)C" } : Jvm.MethodName) prog_29_method_56_code (2 : Nat) (Option.some Jvm.ClassFile.FieldType.char)) ∈ lw_all := lw_g (lw_at lw_m3 118 rfl) rfl
theorem q748 : (Jvm.Cond.methodLink "java/lang/String" (492 : Nat) ({ cls := "java/lang/String", name := "isLatin1", desc := "()Z" } : Jvm.MethodName)) ∈ lw_all := lw_g (lw_at lw_m3 119 rfl) rfl
theorem q749 : (Jvm.Cond.instanceMethod ({ cls := "java/lang/String", name := "isLatin1", desc := "()Z" } : Jvm.MethodName)) ∈ lw_all := lw_g (lw_at lw_m3 120 rfl) rfl
theorem q750 : (Jvm.Cond.selects "java/lang/String" ({ cls := "java/lang/String", name := "isLatin1", desc := "()Z" } : Jvm.MethodName) ({ cls := "java/lang/String", name := "isLatin1", desc := "()Z" } : Jvm.MethodName)) ∈ lw_all := lw_g (lw_at lw_m3 121 rfl) rfl
theorem q751 : (Jvm.Cond.code ({ cls := "java/lang/String", name := "isLatin1", desc := "()Z" } : Jvm.MethodName) prog_29_method_154_code (1 : Nat) (Option.some Jvm.ClassFile.FieldType.boolean)) ∈ lw_all := lw_g (lw_at lw_m3 122 rfl) rfl
theorem q752 : (Jvm.Cond.methodLink "java/lang/String" (495 : Nat) ({ cls := "java/lang/StringLatin1", name := "charAt", desc := "([BI)C" } : Jvm.MethodName)) ∈ lw_all := lw_g (lw_at lw_m3 123 rfl) rfl
theorem q753 : (Jvm.Cond.static ({ cls := "java/lang/StringLatin1", name := "charAt", desc := "([BI)C" } : Jvm.MethodName)) ∈ lw_all := lw_g (lw_at lw_m3 124 rfl) rfl
theorem q754 : (Jvm.Cond.code ({ cls := "java/lang/StringLatin1", name := "charAt", desc := "([BI)C" } : Jvm.MethodName) prog_30_method_2_code (2 : Nat) (Option.some Jvm.ClassFile.FieldType.char)) ∈ lw_all := lw_g (lw_at lw_m3 125 rfl) rfl
theorem q755 : (Jvm.Cond.methodLink "java/lang/StringLatin1" (9 : Nat) ({ cls := "java/lang/String", name := "checkIndex", desc := "(II)V" } : Jvm.MethodName)) ∈ lw_all := lw_g (lw_at lw_m3 126 rfl) rfl
theorem q756 : (Jvm.Cond.static ({ cls := "java/lang/String", name := "checkIndex", desc := "(II)V" } : Jvm.MethodName)) ∈ lw_all := lw_g (lw_at lw_m3 127 rfl) rfl
theorem q757 : (Jvm.Cond.code ({ cls := "java/lang/String", name := "checkIndex", desc := "(II)V" } : Jvm.MethodName) prog_29_method_155_code (2 : Nat) (Option.none : Option Jvm.ClassFile.FieldType)) ∈ lw_all := lw_g (lw_at lw_m3 128 rfl) rfl
theorem q758 : (Jvm.Cond.fieldLink "java/lang/String" (1053 : Nat) "jdk/internal/util/Preconditions" "SIOOBE_FORMATTER" "Ljava/util/function/BiFunction;") ∈ lw_all := lw_g (lw_at lw_m3 129 rfl) rfl
theorem q759 : (Jvm.Cond.laysStatic "jdk/internal/util/Preconditions" "SIOOBE_FORMATTER" "Ljava/util/function/BiFunction;") ∈ lw_tbl := lw_at lw_m3 130 rfl
theorem q760 : (Jvm.Cond.methodLink "java/lang/String" (1059 : Nat) ({ cls := "jdk/internal/util/Preconditions", name := "checkIndex", desc := "(IILjava/util/function/BiFunction;)I" } : Jvm.MethodName)) ∈ lw_all := lw_g (lw_at lw_m3 131 rfl) rfl
theorem q761 : (Jvm.Cond.static ({ cls := "jdk/internal/util/Preconditions", name := "checkIndex", desc := "(IILjava/util/function/BiFunction;)I" } : Jvm.MethodName)) ∈ lw_all := lw_g (lw_at lw_m3 132 rfl) rfl
theorem q762 : (Jvm.Cond.code ({ cls := "jdk/internal/util/Preconditions", name := "checkIndex", desc := "(IILjava/util/function/BiFunction;)I" } : Jvm.MethodName) prog_34_method_11_code (3 : Nat) (Option.some Jvm.ClassFile.FieldType.int)) ∈ lw_all := lw_g (lw_at lw_m3 133 rfl) rfl
theorem q763 : (Jvm.Cond.methodLink "java/lang/String" (498 : Nat) ({ cls := "java/lang/StringUTF16", name := "charAt", desc := "([BI)C" } : Jvm.MethodName)) ∈ lw_all := lw_g (lw_at lw_m3 134 rfl) rfl
theorem q764 : (Jvm.Cond.static ({ cls := "java/lang/StringUTF16", name := "charAt", desc := "([BI)C" } : Jvm.MethodName)) ∈ lw_all := lw_g (lw_at lw_m3 135 rfl) rfl
theorem q765 : (Jvm.Cond.code ({ cls := "java/lang/StringUTF16", name := "charAt", desc := "([BI)C" } : Jvm.MethodName) prog_31_method_83_code (2 : Nat) (Option.some Jvm.ClassFile.FieldType.char)) ∈ lw_all := lw_g (lw_at lw_m3 136 rfl) rfl
theorem q766 : (Jvm.Cond.methodLink "java/lang/StringUTF16" (67 : Nat) ({ cls := "java/lang/StringUTF16", name := "checkIndex", desc := "(I[B)V" } : Jvm.MethodName)) ∈ lw_all := lw_g (lw_at lw_m3 137 rfl) rfl
theorem q767 : (Jvm.Cond.static ({ cls := "java/lang/StringUTF16", name := "checkIndex", desc := "(I[B)V" } : Jvm.MethodName)) ∈ lw_all := lw_g (lw_at lw_m3 138 rfl) rfl
theorem q768 : (Jvm.Cond.code ({ cls := "java/lang/StringUTF16", name := "checkIndex", desc := "(I[B)V" } : Jvm.MethodName) prog_31_method_91_code (2 : Nat) (Option.none : Option Jvm.ClassFile.FieldType)) ∈ lw_all := lw_g (lw_at lw_m3 139 rfl) rfl
theorem q769 : (Jvm.Cond.methodLink "java/lang/StringUTF16" (48 : Nat) ({ cls := "java/lang/StringUTF16", name := "length", desc := "([B)I" } : Jvm.MethodName)) ∈ lw_all := lw_g (lw_at lw_m3 140 rfl) rfl
theorem q770 : (Jvm.Cond.static ({ cls := "java/lang/StringUTF16", name := "length", desc := "([B)I" } : Jvm.MethodName)) ∈ lw_all := lw_g (lw_at lw_m3 141 rfl) rfl
theorem q771 : (Jvm.Cond.code ({ cls := "java/lang/StringUTF16", name := "length", desc := "([B)I" } : Jvm.MethodName) prog_31_method_6_code (1 : Nat) (Option.some Jvm.ClassFile.FieldType.int)) ∈ lw_all := lw_g (lw_at lw_m3 142 rfl) rfl
theorem q772 : (Jvm.Cond.methodLink "java/lang/StringUTF16" (414 : Nat) ({ cls := "java/lang/String", name := "checkIndex", desc := "(II)V" } : Jvm.MethodName)) ∈ lw_all := lw_g (lw_at lw_m3 143 rfl) rfl
theorem q773 : (Jvm.Cond.methodLink "java/lang/StringUTF16" (71 : Nat) ({ cls := "java/lang/StringUTF16", name := "getChar", desc := "([BI)C" } : Jvm.MethodName)) ∈ lw_all := lw_g (lw_at lw_m3 144 rfl) rfl
theorem q774 : (Jvm.Cond.static ({ cls := "java/lang/StringUTF16", name := "getChar", desc := "([BI)C" } : Jvm.MethodName)) ∈ lw_all := lw_g (lw_at lw_m3 145 rfl) rfl
theorem q775 : (Jvm.Cond.code ({ cls := "java/lang/StringUTF16", name := "getChar", desc := "([BI)C" } : Jvm.MethodName) prog_31_method_5_code (2 : Nat) (Option.some Jvm.ClassFile.FieldType.char)) ∈ lw_all := lw_g (lw_at lw_m3 146 rfl) rfl
theorem q776 : (Jvm.Cond.fieldLink "java/lang/StringUTF16" (44 : Nat) "java/lang/StringUTF16" "$assertionsDisabled" "Z") ∈ lw_all := lw_g (lw_at lw_m3 147 rfl) rfl
theorem q777 : (Jvm.Cond.laysStatic "java/lang/StringUTF16" "$assertionsDisabled" "Z") ∈ lw_tbl := lw_at lw_m3 148 rfl
theorem q778 : (Jvm.Cond.fieldLink "java/lang/StringUTF16" (59 : Nat) "java/lang/StringUTF16" "HI_BYTE_SHIFT" "I") ∈ lw_all := lw_g (lw_at lw_m3 149 rfl) rfl
theorem q779 : (Jvm.Cond.laysStatic "java/lang/StringUTF16" "HI_BYTE_SHIFT" "I") ∈ lw_tbl := lw_at lw_m3 150 rfl
theorem q780 : (Jvm.Cond.fieldLink "java/lang/StringUTF16" (63 : Nat) "java/lang/StringUTF16" "LO_BYTE_SHIFT" "I") ∈ lw_all := lw_g (lw_at lw_m3 151 rfl) rfl
theorem q781 : (Jvm.Cond.laysStatic "java/lang/StringUTF16" "LO_BYTE_SHIFT" "I") ∈ lw_tbl := lw_at lw_m3 152 rfl
theorem q782 : (Jvm.Cond.methodLink "ArmsHouse$Text" (62 : Nat) ({ cls := "ArmsHouse$Text", name := "isFigure", desc := "(I)Z" } : Jvm.MethodName)) ∈ lw_all := lw_g (lw_at lw_m3 153 rfl) rfl
theorem q784 : (Jvm.Cond.instanceMethod ({ cls := "ArmsHouse$Text", name := "isFigure", desc := "(I)Z" } : Jvm.MethodName)) ∈ lw_all := lw_g (lw_at lw_m3 155 rfl) rfl
theorem q785 : (Jvm.Cond.code ({ cls := "ArmsHouse$Text", name := "isFigure", desc := "(I)Z" } : Jvm.MethodName) prog_14_method_3_code (2 : Nat) (Option.some Jvm.ClassFile.FieldType.boolean)) ∈ lw_all := lw_g (lw_at lw_m3 156 rfl) rfl
theorem q786 : (Jvm.Cond.methodLink "ArmsHouse" (551 : Nat) ({ cls := "ArmsHouse", name := "read", desc := "(LArmsHouse$Text;)LArmsHouse$Arms;" } : Jvm.MethodName)) ∈ lw_all := lw_g (lw_at lw_m3 157 rfl) rfl
theorem q788 : (Jvm.Cond.instanceMethod ({ cls := "ArmsHouse", name := "read", desc := "(LArmsHouse$Text;)LArmsHouse$Arms;" } : Jvm.MethodName)) ∈ lw_all := lw_g (lw_at lw_m3 159 rfl) rfl
theorem q789 : (Jvm.Cond.code ({ cls := "ArmsHouse", name := "read", desc := "(LArmsHouse$Text;)LArmsHouse$Arms;" } : Jvm.MethodName) prog_1_method_10_code (7 : Nat) (Option.some (Jvm.ClassFile.FieldType.object "ArmsHouse$Arms"))) ∈ lw_all := lw_g (lw_at lw_m3 160 rfl) rfl
theorem q790 : (Jvm.Cond.methodLink "ArmsHouse" (109 : Nat) ({ cls := "ArmsHouse", name := "field", desc := "(LArmsHouse$Text;)LArmsHouse$Field;" } : Jvm.MethodName)) ∈ lw_all := lw_g (lw_at lw_m3 161 rfl) rfl
theorem q791 : (Jvm.Cond.static ({ cls := "ArmsHouse", name := "field", desc := "(LArmsHouse$Text;)LArmsHouse$Field;" } : Jvm.MethodName)) ∈ lw_all := lw_g (lw_at lw_m3 162 rfl) rfl
theorem q792 : (Jvm.Cond.code ({ cls := "ArmsHouse", name := "field", desc := "(LArmsHouse$Text;)LArmsHouse$Field;" } : Jvm.MethodName) prog_1_method_5_code (6 : Nat) (Option.some (Jvm.ClassFile.FieldType.object "ArmsHouse$Field"))) ∈ lw_all := lw_g (lw_at lw_m3 163 rfl) rfl
theorem q793 : (Jvm.Cond.methodLink "ArmsHouse" (13 : Nat) ({ cls := "ArmsHouse$Text", name := "isIn", desc := "(II)Z" } : Jvm.MethodName)) ∈ lw_all := lw_g (lw_at lw_m3 164 rfl) rfl
theorem q794 : (Jvm.Cond.instanceMethod ({ cls := "ArmsHouse$Text", name := "isIn", desc := "(II)Z" } : Jvm.MethodName)) ∈ lw_all := lw_g (lw_at lw_m3 165 rfl) rfl
theorem q795 : (Jvm.Cond.selects "ArmsHouse$Text" ({ cls := "ArmsHouse$Text", name := "isIn", desc := "(II)Z" } : Jvm.MethodName) ({ cls := "ArmsHouse$Text", name := "isIn", desc := "(II)Z" } : Jvm.MethodName)) ∈ lw_all := lw_g (lw_at lw_m3 166 rfl) rfl
theorem q796 : (Jvm.Cond.code ({ cls := "ArmsHouse$Text", name := "isIn", desc := "(II)Z" } : Jvm.MethodName) prog_14_method_10_code (3 : Nat) (Option.some Jvm.ClassFile.FieldType.boolean)) ∈ lw_all := lw_g (lw_at lw_m3 167 rfl) rfl
theorem q797 : (Jvm.Cond.methodLink "ArmsHouse" (19 : Nat) ({ cls := "ArmsHouse$Text", name := "wantIn", desc := "(II)I" } : Jvm.MethodName)) ∈ lw_all := lw_g (lw_at lw_m3 168 rfl) rfl
theorem q798 : (Jvm.Cond.instanceMethod ({ cls := "ArmsHouse$Text", name := "wantIn", desc := "(II)I" } : Jvm.MethodName)) ∈ lw_all := lw_g (lw_at lw_m3 169 rfl) rfl
theorem q799 : (Jvm.Cond.selects "ArmsHouse$Text" ({ cls := "ArmsHouse$Text", name := "wantIn", desc := "(II)I" } : Jvm.MethodName) ({ cls := "ArmsHouse$Text", name := "wantIn", desc := "(II)I" } : Jvm.MethodName)) ∈ lw_all := lw_g (lw_at lw_m3 170 rfl) rfl
theorem q800 : (Jvm.Cond.code ({ cls := "ArmsHouse$Text", name := "wantIn", desc := "(II)I" } : Jvm.MethodName) prog_14_method_14_code (3 : Nat) (Option.some Jvm.ClassFile.FieldType.int)) ∈ lw_all := lw_g (lw_at lw_m3 171 rfl) rfl
theorem q801 : (Jvm.Cond.methodLink "ArmsHouse$Text" (86 : Nat) ({ cls := "ArmsHouse$Text", name := "wrong", desc := "()V" } : Jvm.MethodName)) ∈ lw_all := lw_g (lw_at lw_m3 172 rfl) rfl
theorem q802 : (Jvm.Cond.instanceMethod ({ cls := "ArmsHouse$Text", name := "wrong", desc := "()V" } : Jvm.MethodName)) ∈ lw_all := lw_g (lw_at lw_m3 173 rfl) rfl
theorem q803 : (Jvm.Cond.selects "ArmsHouse$Text" ({ cls := "ArmsHouse$Text", name := "wrong", desc := "()V" } : Jvm.MethodName) ({ cls := "ArmsHouse$Text", name := "wrong", desc := "()V" } : Jvm.MethodName)) ∈ lw_all := lw_g (lw_at lw_m3 174 rfl) rfl
theorem q804 : (Jvm.Cond.code ({ cls := "ArmsHouse$Text", name := "wrong", desc := "()V" } : Jvm.MethodName) prog_14_method_12_code (1 : Nat) (Option.none : Option Jvm.ClassFile.FieldType)) ∈ lw_all := lw_g (lw_at lw_m3 175 rfl) rfl
theorem q805 : (Jvm.Cond.methodLink "ArmsHouse$Text" (79 : Nat) ({ cls := "ArmsHouse$Text", name := "fail", desc := "(II)V" } : Jvm.MethodName)) ∈ lw_all := lw_g (lw_at lw_m3 176 rfl) rfl
theorem q806 : (Jvm.Cond.instanceMethod ({ cls := "ArmsHouse$Text", name := "fail", desc := "(II)V" } : Jvm.MethodName)) ∈ lw_all := lw_g (lw_at lw_m3 177 rfl) rfl
theorem q807 : (Jvm.Cond.selects "ArmsHouse$Text" ({ cls := "ArmsHouse$Text", name := "fail", desc := "(II)V" } : Jvm.MethodName) ({ cls := "ArmsHouse$Text", name := "fail", desc := "(II)V" } : Jvm.MethodName)) ∈ lw_all := lw_g (lw_at lw_m3 178 rfl) rfl
theorem q808 : (Jvm.Cond.code ({ cls := "ArmsHouse$Text", name := "fail", desc := "(II)V" } : Jvm.MethodName) prog_14_method_11_code (3 : Nat) (Option.none : Option Jvm.ClassFile.FieldType)) ∈ lw_all := lw_g (lw_at lw_m3 179 rfl) rfl
theorem q809 : (Jvm.Cond.methodLink "ArmsHouse" (7 : Nat) ({ cls := "ArmsHouse$Text", name := "takes", desc := "(I)Z" } : Jvm.MethodName)) ∈ lw_all := lw_g (lw_at lw_m3 180 rfl) rfl
theorem q810 : (Jvm.Cond.instanceMethod ({ cls := "ArmsHouse$Text", name := "takes", desc := "(I)Z" } : Jvm.MethodName)) ∈ lw_all := lw_g (lw_at lw_m3 181 rfl) rfl
theorem q811 : (Jvm.Cond.selects "ArmsHouse$Text" ({ cls := "ArmsHouse$Text", name := "takes", desc := "(I)Z" } : Jvm.MethodName) ({ cls := "ArmsHouse$Text", name := "takes", desc := "(I)Z" } : Jvm.MethodName)) ∈ lw_all := lw_g (lw_at lw_m3 182 rfl) rfl
theorem q812 : (Jvm.Cond.code ({ cls := "ArmsHouse$Text", name := "takes", desc := "(I)Z" } : Jvm.MethodName) prog_14_method_15_code (2 : Nat) (Option.some Jvm.ClassFile.FieldType.boolean)) ∈ lw_all := lw_g (lw_at lw_m3 183 rfl) rfl
theorem q813 : (Jvm.Cond.methodLink "ArmsHouse$Text" (89 : Nat) ({ cls := "ArmsHouse$Text", name := "is", desc := "(I)Z" } : Jvm.MethodName)) ∈ lw_all := lw_g (lw_at lw_m3 184 rfl) rfl
theorem q814 : (Jvm.Cond.instanceMethod ({ cls := "ArmsHouse$Text", name := "is", desc := "(I)Z" } : Jvm.MethodName)) ∈ lw_all := lw_g (lw_at lw_m3 185 rfl) rfl
theorem q815 : (Jvm.Cond.selects "ArmsHouse$Text" ({ cls := "ArmsHouse$Text", name := "is", desc := "(I)Z" } : Jvm.MethodName) ({ cls := "ArmsHouse$Text", name := "is", desc := "(I)Z" } : Jvm.MethodName)) ∈ lw_all := lw_g (lw_at lw_m3 186 rfl) rfl
theorem q816 : (Jvm.Cond.code ({ cls := "ArmsHouse$Text", name := "is", desc := "(I)Z" } : Jvm.MethodName) prog_14_method_9_code (2 : Nat) (Option.some Jvm.ClassFile.FieldType.boolean)) ∈ lw_all := lw_g (lw_at lw_m3 187 rfl) rfl
theorem q817 : (Jvm.Cond.methodLink "ArmsHouse" (27 : Nat) ({ cls := "ArmsHouse", name := "line", desc := "(LArmsHouse$Text;)I" } : Jvm.MethodName)) ∈ lw_all := lw_g (lw_at lw_m3 188 rfl) rfl
theorem q818 : (Jvm.Cond.static ({ cls := "ArmsHouse", name := "line", desc := "(LArmsHouse$Text;)I" } : Jvm.MethodName)) ∈ lw_all := lw_g (lw_at lw_m3 189 rfl) rfl
theorem q819 : (Jvm.Cond.code ({ cls := "ArmsHouse", name := "line", desc := "(LArmsHouse$Text;)I" } : Jvm.MethodName) prog_1_method_4_code (1 : Nat) (Option.some Jvm.ClassFile.FieldType.int)) ∈ lw_all := lw_g (lw_at lw_m3 190 rfl) rfl
theorem q820 : (Jvm.Cond.methodLink "ArmsHouse" (35 : Nat) ({ cls := "ArmsHouse", name := "number", desc := "(LArmsHouse$Text;IZ)I" } : Jvm.MethodName)) ∈ lw_all := lw_g (lw_at lw_m3 191 rfl) rfl
theorem q821 : (Jvm.Cond.static ({ cls := "ArmsHouse", name := "number", desc := "(LArmsHouse$Text;IZ)I" } : Jvm.MethodName)) ∈ lw_all := lw_g (lw_at lw_m3 192 rfl) rfl
theorem q822 : (Jvm.Cond.code ({ cls := "ArmsHouse", name := "number", desc := "(LArmsHouse$Text;IZ)I" } : Jvm.MethodName) prog_1_method_6_code (5 : Nat) (Option.some Jvm.ClassFile.FieldType.int)) ∈ lw_all := lw_g (lw_at lw_m3 193 rfl) rfl
theorem q823 : (Jvm.Cond.methodLink "ArmsHouse" (39 : Nat) ({ cls := "ArmsHouse$Text", name := "want", desc := "(I)V" } : Jvm.MethodName)) ∈ lw_all := lw_g (lw_at lw_m3 194 rfl) rfl
theorem q824 : (Jvm.Cond.instanceMethod ({ cls := "ArmsHouse$Text", name := "want", desc := "(I)V" } : Jvm.MethodName)) ∈ lw_all := lw_g (lw_at lw_m3 195 rfl) rfl
theorem q825 : (Jvm.Cond.selects "ArmsHouse$Text" ({ cls := "ArmsHouse$Text", name := "want", desc := "(I)V" } : Jvm.MethodName) ({ cls := "ArmsHouse$Text", name := "want", desc := "(I)V" } : Jvm.MethodName)) ∈ lw_all := lw_g (lw_at lw_m3 196 rfl) rfl
theorem q826 : (Jvm.Cond.code ({ cls := "ArmsHouse$Text", name := "want", desc := "(I)V" } : Jvm.MethodName) prog_14_method_13_code (2 : Nat) (Option.none : Option Jvm.ClassFile.FieldType)) ∈ lw_all := lw_g (lw_at lw_m3 197 rfl) rfl
theorem q827 : (Jvm.Cond.methodLink "ArmsHouse$Text" (83 : Nat) ({ cls := "ArmsHouse$Text", name := "wantIn", desc := "(II)I" } : Jvm.MethodName)) ∈ lw_all := lw_g (lw_at lw_m3 198 rfl) rfl
theorem q828 : (Jvm.Cond.methodLink "ArmsHouse" (53 : Nat) ({ cls := "ArmsHouse$Text", name := "fail", desc := "(II)V" } : Jvm.MethodName)) ∈ lw_all := lw_g (lw_at lw_m3 199 rfl) rfl
theorem q829 : (Jvm.Cond.methodLink "ArmsHouse" (57 : Nat) ({ cls := "ArmsHouse$Text", name := "is", desc := "(I)Z" } : Jvm.MethodName)) ∈ lw_all := lw_g (lw_at lw_m3 200 rfl) rfl
theorem q830 : (Jvm.Cond.methodLink "ArmsHouse" (103 : Nat) ({ cls := "ArmsHouse$Text", name := "wrong", desc := "()V" } : Jvm.MethodName)) ∈ lw_all := lw_g (lw_at lw_m3 201 rfl) rfl
theorem q831 : (Jvm.Cond.methodLink "ArmsHouse" (117 : Nat) ({ cls := "ArmsHouse", name := "layer", desc := "(LArmsHouse$Text;I)LArmsHouse$Layer;" } : Jvm.MethodName)) ∈ lw_all := lw_g (lw_at lw_m3 202 rfl) rfl
theorem q832 : (Jvm.Cond.static ({ cls := "ArmsHouse", name := "layer", desc := "(LArmsHouse$Text;I)LArmsHouse$Layer;" } : Jvm.MethodName)) ∈ lw_all := lw_g (lw_at lw_m3 203 rfl) rfl
theorem q833 : (Jvm.Cond.code ({ cls := "ArmsHouse", name := "layer", desc := "(LArmsHouse$Text;I)LArmsHouse$Layer;" } : Jvm.MethodName) prog_1_method_9_code (4 : Nat) (Option.some (Jvm.ClassFile.FieldType.object "ArmsHouse$Layer"))) ∈ lw_all := lw_g (lw_at lw_m3 204 rfl) rfl
theorem q834 : (Jvm.Cond.methodLink "ArmsHouse" (82 : Nat) ({ cls := "ArmsHouse$Text", name := "after", desc := "()I" } : Jvm.MethodName)) ∈ lw_all := lw_g (lw_at lw_m3 205 rfl) rfl
theorem q835 : (Jvm.Cond.instanceMethod ({ cls := "ArmsHouse$Text", name := "after", desc := "()I" } : Jvm.MethodName)) ∈ lw_all := lw_g (lw_at lw_m3 206 rfl) rfl
theorem q836 : (Jvm.Cond.selects "ArmsHouse$Text" ({ cls := "ArmsHouse$Text", name := "after", desc := "()I" } : Jvm.MethodName) ({ cls := "ArmsHouse$Text", name := "after", desc := "()I" } : Jvm.MethodName)) ∈ lw_all := lw_g (lw_at lw_m3 207 rfl) rfl
theorem q837 : (Jvm.Cond.code ({ cls := "ArmsHouse$Text", name := "after", desc := "()I" } : Jvm.MethodName) prog_14_method_8_code (1 : Nat) (Option.some Jvm.ClassFile.FieldType.int)) ∈ lw_all := lw_g (lw_at lw_m3 208 rfl) rfl
theorem q838 : (Jvm.Cond.methodLink "ArmsHouse" (86 : Nat) ({ cls := "ArmsHouse", name := "ordinary", desc := "(LArmsHouse$Text;I)LArmsHouse$Ordinary;" } : Jvm.MethodName)) ∈ lw_all := lw_g (lw_at lw_m3 209 rfl) rfl
theorem q839 : (Jvm.Cond.static ({ cls := "ArmsHouse", name := "ordinary", desc := "(LArmsHouse$Text;I)LArmsHouse$Ordinary;" } : Jvm.MethodName)) ∈ lw_all := lw_g (lw_at lw_m3 210 rfl) rfl
theorem q840 : (Jvm.Cond.code ({ cls := "ArmsHouse", name := "ordinary", desc := "(LArmsHouse$Text;I)LArmsHouse$Ordinary;" } : Jvm.MethodName) prog_1_method_8_code (5 : Nat) (Option.some (Jvm.ClassFile.FieldType.object "ArmsHouse$Ordinary"))) ∈ lw_all := lw_g (lw_at lw_m3 211 rfl) rfl
theorem q841 : (Jvm.Cond.methodLink "ArmsHouse" (93 : Nat) ({ cls := "ArmsHouse", name := "group", desc := "(LArmsHouse$Text;)LArmsHouse$Group;" } : Jvm.MethodName)) ∈ lw_all := lw_g (lw_at lw_m3 212 rfl) rfl
theorem q842 : (Jvm.Cond.static ({ cls := "ArmsHouse", name := "group", desc := "(LArmsHouse$Text;)LArmsHouse$Group;" } : Jvm.MethodName)) ∈ lw_all := lw_g (lw_at lw_m3 213 rfl) rfl
theorem q843 : (Jvm.Cond.code ({ cls := "ArmsHouse", name := "group", desc := "(LArmsHouse$Text;)LArmsHouse$Group;" } : Jvm.MethodName) prog_1_method_7_code (5 : Nat) (Option.some (Jvm.ClassFile.FieldType.object "ArmsHouse$Group"))) ∈ lw_all := lw_g (lw_at lw_m3 214 rfl) rfl
theorem q844 : (Jvm.Cond.methodLink "ArmsHouse" (3 : Nat) ({ cls := "ArmsHouse", name := "firstAttitude", desc := "(I)I" } : Jvm.MethodName)) ∈ lw_all := lw_g (lw_at lw_m3 215 rfl) rfl
theorem q845 : (Jvm.Cond.static ({ cls := "ArmsHouse", name := "firstAttitude", desc := "(I)I" } : Jvm.MethodName)) ∈ lw_all := lw_g (lw_at lw_m3 216 rfl) rfl
theorem q846 : (Jvm.Cond.code ({ cls := "ArmsHouse", name := "firstAttitude", desc := "(I)I" } : Jvm.MethodName) prog_1_method_2_code (1 : Nat) (Option.some Jvm.ClassFile.FieldType.int)) ∈ lw_all := lw_g (lw_at lw_m3 217 rfl) rfl
theorem q847 : (Jvm.Cond.methodLink "ArmsHouse" (60 : Nat) ({ cls := "ArmsHouse", name := "mayStand", desc := "(II)Z" } : Jvm.MethodName)) ∈ lw_all := lw_g (lw_at lw_m3 218 rfl) rfl
theorem q848 : (Jvm.Cond.static ({ cls := "ArmsHouse", name := "mayStand", desc := "(II)Z" } : Jvm.MethodName)) ∈ lw_all := lw_g (lw_at lw_m3 219 rfl) rfl
theorem q849 : (Jvm.Cond.code ({ cls := "ArmsHouse", name := "mayStand", desc := "(II)Z" } : Jvm.MethodName) prog_1_method_3_code (2 : Nat) (Option.some Jvm.ClassFile.FieldType.boolean)) ∈ lw_all := lw_g (lw_at lw_m3 220 rfl) rfl
theorem q850 : (Jvm.Cond.classLink "ArmsHouse" (63 : Nat) "ArmsHouse$Group") ∈ lw_all := lw_g (lw_at lw_m3 221 rfl) rfl
theorem q851 : (Jvm.Cond.instantiable "ArmsHouse$Group" (5 : Nat)) ∈ lw_all := lw_g (lw_at lw_m3 222 rfl) rfl
theorem q852 : (Jvm.Cond.methodLink "ArmsHouse" (65 : Nat) ({ cls := "ArmsHouse$Group", name := "<init>", desc := "(IIII)V" } : Jvm.MethodName)) ∈ lw_all := lw_g (lw_at lw_m3 223 rfl) rfl
theorem q853 : (Jvm.Cond.instanceMethod ({ cls := "ArmsHouse$Group", name := "<init>", desc := "(IIII)V" } : Jvm.MethodName)) ∈ lw_all := lw_g (lw_at lw_m3 224 rfl) rfl
theorem q854 : (Jvm.Cond.code ({ cls := "ArmsHouse$Group", name := "<init>", desc := "(IIII)V" } : Jvm.MethodName) prog_5_method_2_code (5 : Nat) (Option.none : Option Jvm.ClassFile.FieldType)) ∈ lw_all := lw_g (lw_at lw_m3 225 rfl) rfl
theorem q855 : (Jvm.Cond.methodLink "ArmsHouse$Group" (7 : Nat) ({ cls := "java/lang/Object", name := "<init>", desc := "()V" } : Jvm.MethodName)) ∈ lw_all := lw_g (lw_at lw_m3 226 rfl) rfl
theorem q856 : (Jvm.Cond.classLink "ArmsHouse$Group" (13 : Nat) "ArmsHouse$Whole") ∈ lw_all := lw_g (lw_at lw_m3 227 rfl) rfl
theorem q857 : (Jvm.Cond.methodLinkNest "ArmsHouse$Group" (15 : Nat) ({ cls := "ArmsHouse$Whole", name := "<init>", desc := "()V" } : Jvm.MethodName) "ArmsHouse") ∈ lw_tbl := lw_at lw_m3 228 rfl
theorem q858 : (Jvm.Cond.fieldLink "ArmsHouse$Group" (16 : Nat) "ArmsHouse$Group" "number" "I") ∈ lw_all := lw_g (lw_at lw_m3 229 rfl) rfl
theorem q859 : (Jvm.Cond.fieldLink "ArmsHouse$Layer" (40 : Nat) "ArmsHouse$Group" "number" "I") ∈ lw_all := lw_g (lw_at lw_m3 230 rfl) rfl
theorem q860 : (Jvm.Cond.fieldLink "ArmsHouse$One" (82 : Nat) "ArmsHouse$Group" "number" "I") ∈ lw_all := lw_g (lw_at lw_m3 231 rfl) rfl
theorem q861 : (Jvm.Cond.fieldLink "ArmsHouse" (170 : Nat) "ArmsHouse$Group" "number" "I") ∈ lw_all := lw_g (lw_at lw_m3 232 rfl) rfl
theorem q862 : (Jvm.Cond.fieldLink "ArmsHouse$Group" (20 : Nat) "ArmsHouse$Group" "thing" "I") ∈ lw_all := lw_g (lw_at lw_m3 233 rfl) rfl
theorem q863 : (Jvm.Cond.fieldLink "ArmsHouse$Layer" (43 : Nat) "ArmsHouse$Group" "thing" "I") ∈ lw_all := lw_g (lw_at lw_m3 234 rfl) rfl
theorem q864 : (Jvm.Cond.fieldLink "ArmsHouse$One" (85 : Nat) "ArmsHouse$Group" "thing" "I") ∈ lw_all := lw_g (lw_at lw_m3 235 rfl) rfl
theorem q865 : (Jvm.Cond.fieldLink "ArmsHouse" (174 : Nat) "ArmsHouse$Group" "thing" "I") ∈ lw_all := lw_g (lw_at lw_m3 236 rfl) rfl
theorem q866 : (Jvm.Cond.fieldLink "ArmsHouse$Group" (23 : Nat) "ArmsHouse$Group" "attitude" "I") ∈ lw_all := lw_g (lw_at lw_m3 237 rfl) rfl
theorem q867 : (Jvm.Cond.fieldLink "ArmsHouse$Layer" (46 : Nat) "ArmsHouse$Group" "attitude" "I") ∈ lw_all := lw_g (lw_at lw_m3 238 rfl) rfl
theorem q868 : (Jvm.Cond.fieldLink "ArmsHouse" (177 : Nat) "ArmsHouse$Group" "attitude" "I") ∈ lw_all := lw_g (lw_at lw_m3 239 rfl) rfl
theorem q869 : (Jvm.Cond.fieldLink "ArmsHouse$Group" (26 : Nat) "ArmsHouse$Group" "tincture" "I") ∈ lw_all := lw_g (lw_at lw_m4 0 rfl) rfl
theorem q870 : (Jvm.Cond.fieldLink "ArmsHouse$Layer" (49 : Nat) "ArmsHouse$Group" "tincture" "I") ∈ lw_all := lw_g (lw_at lw_m4 1 rfl) rfl
theorem q871 : (Jvm.Cond.fieldLink "ArmsHouse" (180 : Nat) "ArmsHouse$Group" "tincture" "I") ∈ lw_all := lw_g (lw_at lw_m4 2 rfl) rfl
theorem q872 : (Jvm.Cond.fieldLink "ArmsHouse$Group" (1 : Nat) "ArmsHouse$Group" "told" "LArmsHouse$Whole;") ∈ lw_all := lw_g (lw_at lw_m4 3 rfl) rfl
theorem q873 : (Jvm.Cond.laysFinal "ArmsHouse$Group" "ArmsHouse$Group" "number" "I") ∈ lw_all := lw_g (lw_at lw_m4 4 rfl) rfl
theorem q875 : (Jvm.Cond.laysFinal "ArmsHouse$Group" "ArmsHouse$Group" "thing" "I") ∈ lw_all := lw_g (lw_at lw_m4 6 rfl) rfl
theorem q877 : (Jvm.Cond.laysFinal "ArmsHouse$Group" "ArmsHouse$Group" "attitude" "I") ∈ lw_all := lw_g (lw_at lw_m4 8 rfl) rfl
theorem q879 : (Jvm.Cond.lays "ArmsHouse$Group" "ArmsHouse$Group" "tincture" "I") ∈ lw_all := lw_g (lw_at lw_m4 10 rfl) rfl
theorem q881 : (Jvm.Cond.laysFinal "ArmsHouse$Group" "ArmsHouse$Group" "told" "LArmsHouse$Whole;") ∈ lw_all := lw_g (lw_at lw_m4 12 rfl) rfl
theorem q884 : (Jvm.Cond.methodLink "ArmsHouse" (137 : Nat) ({ cls := "ArmsHouse", name := "settle", desc := "([LArmsHouse$Layer;)V" } : Jvm.MethodName)) ∈ lw_all := lw_g (lw_at lw_m4 15 rfl) rfl
theorem q885 : (Jvm.Cond.static ({ cls := "ArmsHouse", name := "settle", desc := "([LArmsHouse$Layer;)V" } : Jvm.MethodName)) ∈ lw_all := lw_g (lw_at lw_m4 16 rfl) rfl
theorem q886 : (Jvm.Cond.code ({ cls := "ArmsHouse", name := "settle", desc := "([LArmsHouse$Layer;)V" } : Jvm.MethodName) prog_1_method_11_code (4 : Nat) (Option.none : Option Jvm.ClassFile.FieldType)) ∈ lw_all := lw_g (lw_at lw_m4 17 rfl) rfl
theorem q887 : (Jvm.Cond.methodLink "ArmsHouse" (141 : Nat) ({ cls := "ArmsHouse$Layer", name := "isInPart", desc := "()Z" } : Jvm.MethodName)) ∈ lw_all := lw_g (lw_at lw_m4 18 rfl) rfl
theorem q888 : (Jvm.Cond.instanceMethod ({ cls := "ArmsHouse$Layer", name := "isInPart", desc := "()Z" } : Jvm.MethodName)) ∈ lw_all := lw_g (lw_at lw_m4 19 rfl) rfl
theorem q889 : (Jvm.Cond.selects "ArmsHouse$Layer" ({ cls := "ArmsHouse$Layer", name := "isInPart", desc := "()Z" } : Jvm.MethodName) ({ cls := "ArmsHouse$Layer", name := "isInPart", desc := "()Z" } : Jvm.MethodName)) ∈ lw_all := lw_g (lw_at lw_m4 20 rfl) rfl
theorem q890 : (Jvm.Cond.code ({ cls := "ArmsHouse$Layer", name := "isInPart", desc := "()Z" } : Jvm.MethodName) prog_6_method_5_code (1 : Nat) (Option.some Jvm.ClassFile.FieldType.boolean)) ∈ lw_all := lw_g (lw_at lw_m4 21 rfl) rfl
theorem q891 : (Jvm.Cond.methodLink "ArmsHouse" (555 : Nat) ({ cls := "ArmsHouse", name := "told", desc := "()I" } : Jvm.MethodName)) ∈ lw_all := lw_g (lw_at lw_m4 22 rfl) rfl
theorem q893 : (Jvm.Cond.instanceMethod ({ cls := "ArmsHouse", name := "told", desc := "()I" } : Jvm.MethodName)) ∈ lw_all := lw_g (lw_at lw_m4 24 rfl) rfl
theorem q894 : (Jvm.Cond.code ({ cls := "ArmsHouse", name := "told", desc := "()I" } : Jvm.MethodName) prog_1_method_47_code (1 : Nat) (Option.some Jvm.ClassFile.FieldType.int)) ∈ lw_all := lw_g (lw_at lw_m4 25 rfl) rfl
theorem q895 : (Jvm.Cond.methodLink "ArmsHouse" (558 : Nat) ({ cls := "ArmsHouse", name := "enterArms", desc := "(LArmsHouse$Arms;)I" } : Jvm.MethodName)) ∈ lw_all := lw_g (lw_at lw_m4 26 rfl) rfl
theorem q897 : (Jvm.Cond.instanceMethod ({ cls := "ArmsHouse", name := "enterArms", desc := "(LArmsHouse$Arms;)I" } : Jvm.MethodName)) ∈ lw_all := lw_g (lw_at lw_m4 28 rfl) rfl
theorem q898 : (Jvm.Cond.code ({ cls := "ArmsHouse", name := "enterArms", desc := "(LArmsHouse$Arms;)I" } : Jvm.MethodName) prog_1_method_48_code (2 : Nat) (Option.some Jvm.ClassFile.FieldType.int)) ∈ lw_all := lw_g (lw_at lw_m4 29 rfl) rfl
theorem q899 : (Jvm.Cond.methodLink "ArmsHouseLaw" (38 : Nat) ({ cls := "ArmsHouse", name := "fault", desc := "()I" } : Jvm.MethodName)) ∈ lw_all := lw_g (lw_at lw_m4 30 rfl) rfl
theorem q900 : (Jvm.Cond.instanceMethod ({ cls := "ArmsHouse", name := "fault", desc := "()I" } : Jvm.MethodName)) ∈ lw_all := lw_g (lw_at lw_m4 31 rfl) rfl
theorem q901 : (Jvm.Cond.selects "ArmsHouse" ({ cls := "ArmsHouse", name := "fault", desc := "()I" } : Jvm.MethodName) ({ cls := "ArmsHouse", name := "fault", desc := "()I" } : Jvm.MethodName)) ∈ lw_all := lw_g (lw_at lw_m4 32 rfl) rfl
theorem q902 : (Jvm.Cond.code ({ cls := "ArmsHouse", name := "fault", desc := "()I" } : Jvm.MethodName) prog_1_method_50_code (1 : Nat) (Option.some Jvm.ClassFile.FieldType.int)) ∈ lw_all := lw_g (lw_at lw_m4 33 rfl) rfl
theorem q903 : (Jvm.Cond.methodLink "ArmsHouseLaw" (42 : Nat) ({ cls := "ArmsHouse", name := "one", desc := "(II)I" } : Jvm.MethodName)) ∈ lw_all := lw_g (lw_at lw_m4 34 rfl) rfl
theorem q904 : (Jvm.Cond.instanceMethod ({ cls := "ArmsHouse", name := "one", desc := "(II)I" } : Jvm.MethodName)) ∈ lw_all := lw_g (lw_at lw_m4 35 rfl) rfl
theorem q905 : (Jvm.Cond.selects "ArmsHouse" ({ cls := "ArmsHouse", name := "one", desc := "(II)I" } : Jvm.MethodName) ({ cls := "ArmsHouse", name := "one", desc := "(II)I" } : Jvm.MethodName)) ∈ lw_all := lw_g (lw_at lw_m4 36 rfl) rfl
theorem q906 : (Jvm.Cond.code ({ cls := "ArmsHouse", name := "one", desc := "(II)I" } : Jvm.MethodName) prog_1_method_51_code (3 : Nat) (Option.some Jvm.ClassFile.FieldType.int)) ∈ lw_all := lw_g (lw_at lw_m4 37 rfl) rfl
theorem q907 : (Jvm.Cond.methodLink "ArmsHouse" (562 : Nat) ({ cls := "ArmsHouse", name := "areThere", desc := "(I)Z" } : Jvm.MethodName)) ∈ lw_all := lw_g (lw_at lw_m4 38 rfl) rfl
theorem q909 : (Jvm.Cond.instanceMethod ({ cls := "ArmsHouse", name := "areThere", desc := "(I)Z" } : Jvm.MethodName)) ∈ lw_all := lw_g (lw_at lw_m4 40 rfl) rfl
theorem q910 : (Jvm.Cond.code ({ cls := "ArmsHouse", name := "areThere", desc := "(I)Z" } : Jvm.MethodName) prog_1_method_41_code (2 : Nat) (Option.some Jvm.ClassFile.FieldType.boolean)) ∈ lw_all := lw_g (lw_at lw_m4 41 rfl) rfl
theorem q911 : (Jvm.Cond.methodLink "ArmsHouse" (528 : Nat) ({ cls := "ArmsHouse", name := "armsOf", desc := "(I)LArmsHouse$Arms;" } : Jvm.MethodName)) ∈ lw_all := lw_g (lw_at lw_m4 42 rfl) rfl
theorem q913 : (Jvm.Cond.instanceMethod ({ cls := "ArmsHouse", name := "armsOf", desc := "(I)LArmsHouse$Arms;" } : Jvm.MethodName)) ∈ lw_all := lw_g (lw_at lw_m4 44 rfl) rfl
theorem q914 : (Jvm.Cond.codeWith ({ cls := "ArmsHouse", name := "armsOf", desc := "(I)LArmsHouse$Arms;" } : Jvm.MethodName) prog_1_method_40_code (3 : Nat) (Option.some (Jvm.ClassFile.FieldType.object "ArmsHouse$Arms")) [((0 : Nat), (6 : Nat), (7 : Nat), (526 : Nat))]) ∈ lw_all := lw_g (lw_at lw_m4 45 rfl) rfl
theorem q915 : (Jvm.Cond.classLink "ArmsHouse" (526 : Nat) "java/lang/ArrayIndexOutOfBoundsException") ∈ lw_all := lw_g (lw_at lw_m4 46 rfl) rfl
theorem q916 : (Jvm.Cond.instantiable "java/lang/ArrayIndexOutOfBoundsException" (6 : Nat)) ∈ lw_all := lw_g (lw_at lw_m4 47 rfl) rfl
theorem q917 : (Jvm.Cond.instanceMethod ({ cls := "java/lang/ArrayIndexOutOfBoundsException", name := "<init>", desc := "(Ljava/lang/String;)V" } : Jvm.MethodName)) ∈ lw_all := lw_g (lw_at lw_m4 48 rfl) rfl
theorem q918 : (Jvm.Cond.code ({ cls := "java/lang/ArrayIndexOutOfBoundsException", name := "<init>", desc := "(Ljava/lang/String;)V" } : Jvm.MethodName) prog_22_method_2_code (2 : Nat) (Option.none : Option Jvm.ClassFile.FieldType)) ∈ lw_all := lw_g (lw_at lw_m4 49 rfl) rfl
theorem q919 : (Jvm.Cond.methodLink "java/lang/ArrayIndexOutOfBoundsException" (7 : Nat) ({ cls := "java/lang/IndexOutOfBoundsException", name := "<init>", desc := "(Ljava/lang/String;)V" } : Jvm.MethodName)) ∈ lw_all := lw_g (lw_at lw_m4 50 rfl) rfl
theorem q920 : (Jvm.Cond.instanceMethod ({ cls := "java/lang/IndexOutOfBoundsException", name := "<init>", desc := "(Ljava/lang/String;)V" } : Jvm.MethodName)) ∈ lw_all := lw_g (lw_at lw_m4 51 rfl) rfl
theorem q921 : (Jvm.Cond.code ({ cls := "java/lang/IndexOutOfBoundsException", name := "<init>", desc := "(Ljava/lang/String;)V" } : Jvm.MethodName) prog_25_method_2_code (2 : Nat) (Option.none : Option Jvm.ClassFile.FieldType)) ∈ lw_all := lw_g (lw_at lw_m4 52 rfl) rfl
theorem q922 : (Jvm.Cond.methodLink "java/lang/IndexOutOfBoundsException" (7 : Nat) ({ cls := "java/lang/RuntimeException", name := "<init>", desc := "(Ljava/lang/String;)V" } : Jvm.MethodName)) ∈ lw_all := lw_g (lw_at lw_m4 53 rfl) rfl
theorem q923 : (Jvm.Cond.instanceMethod ({ cls := "java/lang/RuntimeException", name := "<init>", desc := "(Ljava/lang/String;)V" } : Jvm.MethodName)) ∈ lw_all := lw_g (lw_at lw_m4 54 rfl) rfl
theorem q924 : (Jvm.Cond.code ({ cls := "java/lang/RuntimeException", name := "<init>", desc := "(Ljava/lang/String;)V" } : Jvm.MethodName) prog_28_method_2_code (2 : Nat) (Option.none : Option Jvm.ClassFile.FieldType)) ∈ lw_all := lw_g (lw_at lw_m4 55 rfl) rfl
theorem q925 : (Jvm.Cond.methodLink "java/lang/RuntimeException" (7 : Nat) ({ cls := "java/lang/Exception", name := "<init>", desc := "(Ljava/lang/String;)V" } : Jvm.MethodName)) ∈ lw_all := lw_g (lw_at lw_m4 56 rfl) rfl
theorem q926 : (Jvm.Cond.instanceMethod ({ cls := "java/lang/Exception", name := "<init>", desc := "(Ljava/lang/String;)V" } : Jvm.MethodName)) ∈ lw_all := lw_g (lw_at lw_m4 57 rfl) rfl
theorem q927 : (Jvm.Cond.code ({ cls := "java/lang/Exception", name := "<init>", desc := "(Ljava/lang/String;)V" } : Jvm.MethodName) prog_24_method_2_code (2 : Nat) (Option.none : Option Jvm.ClassFile.FieldType)) ∈ lw_all := lw_g (lw_at lw_m4 58 rfl) rfl
theorem q928 : (Jvm.Cond.methodLink "java/lang/Exception" (7 : Nat) ({ cls := "java/lang/Throwable", name := "<init>", desc := "(Ljava/lang/String;)V" } : Jvm.MethodName)) ∈ lw_all := lw_g (lw_at lw_m4 59 rfl) rfl
theorem q929 : (Jvm.Cond.instanceMethod ({ cls := "java/lang/Throwable", name := "<init>", desc := "(Ljava/lang/String;)V" } : Jvm.MethodName)) ∈ lw_all := lw_g (lw_at lw_m4 60 rfl) rfl
theorem q930 : (Jvm.Cond.code ({ cls := "java/lang/Throwable", name := "<init>", desc := "(Ljava/lang/String;)V" } : Jvm.MethodName) prog_33_method_2_code (2 : Nat) (Option.none : Option Jvm.ClassFile.FieldType)) ∈ lw_all := lw_g (lw_at lw_m4 61 rfl) rfl
theorem q931 : (Jvm.Cond.lays "java/lang/ArrayIndexOutOfBoundsException" "java/lang/Throwable" "backtrace" "Ljava/lang/Object;") ∈ lw_all := lw_g (lw_at lw_m4 62 rfl) rfl
theorem q932 : (Jvm.Cond.lays "java/lang/ArrayIndexOutOfBoundsException" "java/lang/Throwable" "detailMessage" "Ljava/lang/String;") ∈ lw_all := lw_g (lw_at lw_m4 63 rfl) rfl
theorem q933 : (Jvm.Cond.lays "java/lang/ArrayIndexOutOfBoundsException" "java/lang/Throwable" "cause" "Ljava/lang/Throwable;") ∈ lw_all := lw_g (lw_at lw_m4 64 rfl) rfl
theorem q934 : (Jvm.Cond.lays "java/lang/ArrayIndexOutOfBoundsException" "java/lang/Throwable" "stackTrace" "[Ljava/lang/StackTraceElement;") ∈ lw_all := lw_g (lw_at lw_m4 65 rfl) rfl
theorem q935 : (Jvm.Cond.lays "java/lang/ArrayIndexOutOfBoundsException" "java/lang/Throwable" "depth" "I") ∈ lw_all := lw_g (lw_at lw_m4 66 rfl) rfl
theorem q936 : (Jvm.Cond.lays "java/lang/ArrayIndexOutOfBoundsException" "java/lang/Throwable" "suppressedExceptions" "Ljava/util/List;") ∈ lw_all := lw_g (lw_at lw_m4 67 rfl) rfl
theorem q938 : (Jvm.Cond.castable "java/lang/ArrayIndexOutOfBoundsException" "java/lang/ArrayIndexOutOfBoundsException") ∈ lw_tbl := lw_at lw_m4 69 rfl
theorem q939 : (Jvm.Cond.declares ({ cls := "java/lang/IndexOutOfBoundsException", name := "<init>", desc := "()V" } : Jvm.MethodName)) ∈ lw_tbl := lw_at lw_m4 70 rfl
theorem q940 : (Jvm.Cond.declares ({ cls := "java/lang/IndexOutOfBoundsException", name := "<init>", desc := "(Ljava/lang/String;)V" } : Jvm.MethodName)) ∈ lw_tbl := lw_at lw_m4 71 rfl
theorem q941 : (Jvm.Cond.selects "java/lang/ArrayIndexOutOfBoundsException" ({ cls := "java/lang/Throwable", name := "fillInStackTrace", desc := "(I)Ljava/lang/Throwable;" } : Jvm.MethodName) ({ cls := "java/lang/Throwable", name := "fillInStackTrace", desc := "(I)Ljava/lang/Throwable;" } : Jvm.MethodName)) ∈ lw_all := lw_g (lw_at lw_m4 72 rfl) rfl
theorem q942 : (Jvm.Cond.instantiable "java/lang/String" (4 : Nat)) ∈ lw_all := lw_g (lw_at lw_m4 73 rfl) rfl
theorem q943 : (Jvm.Cond.laysFinal "java/lang/String" "java/lang/String" "value" "[B") ∈ lw_all := lw_g (lw_at lw_m4 74 rfl) rfl
theorem q945 : (Jvm.Cond.laysFinal "java/lang/String" "java/lang/String" "coder" "B") ∈ lw_all := lw_g (lw_at lw_m4 76 rfl) rfl
theorem q947 : (Jvm.Cond.methodLink "ArmsHouse" (565 : Nat) ({ cls := "ArmsHouse", name := "points", desc := "(LArmsHouse$Arms;LArmsHouse$Arms;)I" } : Jvm.MethodName)) ∈ lw_all := lw_g (lw_at lw_m4 78 rfl) rfl
theorem q948 : (Jvm.Cond.static ({ cls := "ArmsHouse", name := "points", desc := "(LArmsHouse$Arms;LArmsHouse$Arms;)I" } : Jvm.MethodName)) ∈ lw_all := lw_g (lw_at lw_m4 79 rfl) rfl
theorem q949 : (Jvm.Cond.code ({ cls := "ArmsHouse", name := "points", desc := "(LArmsHouse$Arms;LArmsHouse$Arms;)I" } : Jvm.MethodName) prog_1_method_36_code (7 : Nat) (Option.some Jvm.ClassFile.FieldType.int)) ∈ lw_all := lw_g (lw_at lw_m4 80 rfl) rfl
theorem q950 : (Jvm.Cond.methodLink "ArmsHouse" (317 : Nat) ({ cls := "ArmsHouse", name := "differ", desc := "(II)I" } : Jvm.MethodName)) ∈ lw_all := lw_g (lw_at lw_m4 81 rfl) rfl
theorem q951 : (Jvm.Cond.static ({ cls := "ArmsHouse", name := "differ", desc := "(II)I" } : Jvm.MethodName)) ∈ lw_all := lw_g (lw_at lw_m4 82 rfl) rfl
theorem q952 : (Jvm.Cond.code ({ cls := "ArmsHouse", name := "differ", desc := "(II)I" } : Jvm.MethodName) prog_1_method_34_code (2 : Nat) (Option.some Jvm.ClassFile.FieldType.int)) ∈ lw_all := lw_g (lw_at lw_m4 83 rfl) rfl
theorem q953 : (Jvm.Cond.methodLink "ArmsHouse" (300 : Nat) ({ cls := "java/lang/Math", name := "max", desc := "(II)I" } : Jvm.MethodName)) ∈ lw_all := lw_g (lw_at lw_m4 84 rfl) rfl
theorem q954 : (Jvm.Cond.static ({ cls := "java/lang/Math", name := "max", desc := "(II)I" } : Jvm.MethodName)) ∈ lw_all := lw_g (lw_at lw_m4 85 rfl) rfl
theorem q955 : (Jvm.Cond.code ({ cls := "java/lang/Math", name := "max", desc := "(II)I" } : Jvm.MethodName) prog_26_method_65_code (2 : Nat) (Option.some Jvm.ClassFile.FieldType.int)) ∈ lw_all := lw_g (lw_at lw_m4 86 rfl) rfl
theorem q956 : (Jvm.Cond.methodLink "ArmsHouse" (320 : Nat) ({ cls := "ArmsHouse", name := "points", desc := "(LArmsHouse$Layer;LArmsHouse$Layer;)I" } : Jvm.MethodName)) ∈ lw_all := lw_g (lw_at lw_m4 87 rfl) rfl
theorem q957 : (Jvm.Cond.static ({ cls := "ArmsHouse", name := "points", desc := "(LArmsHouse$Layer;LArmsHouse$Layer;)I" } : Jvm.MethodName)) ∈ lw_all := lw_g (lw_at lw_m4 88 rfl) rfl
theorem q958 : (Jvm.Cond.code ({ cls := "ArmsHouse", name := "points", desc := "(LArmsHouse$Layer;LArmsHouse$Layer;)I" } : Jvm.MethodName) prog_1_method_35_code (7 : Nat) (Option.some Jvm.ClassFile.FieldType.int)) ∈ lw_all := lw_g (lw_at lw_m4 89 rfl) rfl
theorem q959 : (Jvm.Cond.methodLink "ArmsHouseLaw" (47 : Nat) ({ cls := "ArmsHouse", name := "layers", desc := "(I)I" } : Jvm.MethodName)) ∈ lw_all := lw_g (lw_at lw_m4 90 rfl) rfl
theorem q960 : (Jvm.Cond.instanceMethod ({ cls := "ArmsHouse", name := "layers", desc := "(I)I" } : Jvm.MethodName)) ∈ lw_all := lw_g (lw_at lw_m4 91 rfl) rfl
theorem q961 : (Jvm.Cond.selects "ArmsHouse" ({ cls := "ArmsHouse", name := "layers", desc := "(I)I" } : Jvm.MethodName) ({ cls := "ArmsHouse", name := "layers", desc := "(I)I" } : Jvm.MethodName)) ∈ lw_all := lw_g (lw_at lw_m4 92 rfl) rfl
theorem q962 : (Jvm.Cond.codeWith ({ cls := "ArmsHouse", name := "layers", desc := "(I)I" } : Jvm.MethodName) prog_1_method_52_code (3 : Nat) (Option.some Jvm.ClassFile.FieldType.int) [((0 : Nat), (9 : Nat), (10 : Nat), (568 : Nat))]) ∈ lw_all := lw_g (lw_at lw_m4 93 rfl) rfl
theorem q963 : (Jvm.Cond.classLink "ArmsHouse" (568 : Nat) "java/lang/NullPointerException") ∈ lw_all := lw_g (lw_at lw_m4 94 rfl) rfl
theorem q964 : (Jvm.Cond.instanceMethod ({ cls := "java/lang/NullPointerException", name := "<init>", desc := "()V" } : Jvm.MethodName)) ∈ lw_all := lw_g (lw_at lw_m4 95 rfl) rfl
theorem q965 : (Jvm.Cond.code ({ cls := "java/lang/NullPointerException", name := "<init>", desc := "()V" } : Jvm.MethodName) prog_27_method_1_code (1 : Nat) (Option.none : Option Jvm.ClassFile.FieldType)) ∈ lw_all := lw_g (lw_at lw_m4 96 rfl) rfl
theorem q966 : (Jvm.Cond.methodLink "java/lang/NullPointerException" (1 : Nat) ({ cls := "java/lang/RuntimeException", name := "<init>", desc := "()V" } : Jvm.MethodName)) ∈ lw_all := lw_g (lw_at lw_m4 97 rfl) rfl
theorem q967 : (Jvm.Cond.fieldLink "java/lang/NullPointerException" (10 : Nat) "java/lang/NullPointerException" "extendedMessageState" "I") ∈ lw_all := lw_g (lw_at lw_m4 98 rfl) rfl
theorem q968 : (Jvm.Cond.fieldLink "java/lang/NullPointerException" (20 : Nat) "java/lang/NullPointerException" "extendedMessage" "Ljava/lang/String;") ∈ lw_all := lw_g (lw_at lw_m4 99 rfl) rfl
theorem q969 : (Jvm.Cond.lays "java/lang/NullPointerException" "java/lang/NullPointerException" "extendedMessageState" "I") ∈ lw_all := lw_g (lw_at lw_m4 100 rfl) rfl
theorem q971 : (Jvm.Cond.lays "java/lang/NullPointerException" "java/lang/NullPointerException" "extendedMessage" "Ljava/lang/String;") ∈ lw_all := lw_g (lw_at lw_m4 102 rfl) rfl
theorem q973 : (Jvm.Cond.lays "java/lang/NullPointerException" "java/lang/Throwable" "backtrace" "Ljava/lang/Object;") ∈ lw_all := lw_g (lw_at lw_m4 104 rfl) rfl
theorem q974 : (Jvm.Cond.lays "java/lang/NullPointerException" "java/lang/Throwable" "detailMessage" "Ljava/lang/String;") ∈ lw_all := lw_g (lw_at lw_m4 105 rfl) rfl
theorem q975 : (Jvm.Cond.lays "java/lang/NullPointerException" "java/lang/Throwable" "cause" "Ljava/lang/Throwable;") ∈ lw_all := lw_g (lw_at lw_m4 106 rfl) rfl
theorem q976 : (Jvm.Cond.lays "java/lang/NullPointerException" "java/lang/Throwable" "stackTrace" "[Ljava/lang/StackTraceElement;") ∈ lw_all := lw_g (lw_at lw_m4 107 rfl) rfl
theorem q977 : (Jvm.Cond.lays "java/lang/NullPointerException" "java/lang/Throwable" "depth" "I") ∈ lw_all := lw_g (lw_at lw_m4 108 rfl) rfl
theorem q978 : (Jvm.Cond.lays "java/lang/NullPointerException" "java/lang/Throwable" "suppressedExceptions" "Ljava/util/List;") ∈ lw_all := lw_g (lw_at lw_m4 109 rfl) rfl
theorem q979 : (Jvm.Cond.castable "java/lang/NullPointerException" "java/lang/NullPointerException") ∈ lw_tbl := lw_at lw_m4 110 rfl
theorem q980 : (Jvm.Cond.selects "java/lang/NullPointerException" ({ cls := "java/lang/Throwable", name := "fillInStackTrace", desc := "(I)Ljava/lang/Throwable;" } : Jvm.MethodName) ({ cls := "java/lang/Throwable", name := "fillInStackTrace", desc := "(I)Ljava/lang/Throwable;" } : Jvm.MethodName)) ∈ lw_all := lw_g (lw_at lw_m4 111 rfl) rfl
theorem q981 : (Jvm.Cond.castable "java/lang/RuntimeException" "java/lang/Throwable") ∈ lw_tbl := lw_at lw_m4 112 rfl
theorem q982 : (Jvm.Cond.methodLink "ArmsHouseLaw" (51 : Nat) ({ cls := "ArmsHouse", name := "meaning", desc := "(III)I" } : Jvm.MethodName)) ∈ lw_all := lw_g (lw_at lw_m4 113 rfl) rfl
theorem q983 : (Jvm.Cond.instanceMethod ({ cls := "ArmsHouse", name := "meaning", desc := "(III)I" } : Jvm.MethodName)) ∈ lw_all := lw_g (lw_at lw_m4 114 rfl) rfl
theorem q984 : (Jvm.Cond.selects "ArmsHouse" ({ cls := "ArmsHouse", name := "meaning", desc := "(III)I" } : Jvm.MethodName) ({ cls := "ArmsHouse", name := "meaning", desc := "(III)I" } : Jvm.MethodName)) ∈ lw_all := lw_g (lw_at lw_m4 115 rfl) rfl
theorem q985 : (Jvm.Cond.code ({ cls := "ArmsHouse", name := "meaning", desc := "(III)I" } : Jvm.MethodName) prog_1_method_53_code (6 : Nat) (Option.some Jvm.ClassFile.FieldType.int)) ∈ lw_all := lw_g (lw_at lw_m4 116 rfl) rfl
theorem q986 : (Jvm.Cond.constantLong "ArmsHouse" (570 : Nat) (-1 : Int64)) ∈ lw_all := lw_g (lw_at lw_m4 117 rfl) rfl
theorem q987 : (Jvm.Cond.constantLong "ArmsHouse" (572 : Nat) (4 : Int64)) ∈ lw_all := lw_g (lw_at lw_m4 118 rfl) rfl
theorem q988 : (Jvm.Cond.constantLong "ArmsHouse" (574 : Nat) (9 : Int64)) ∈ lw_all := lw_g (lw_at lw_m4 119 rfl) rfl
theorem q989 : (Jvm.Cond.methodLink "ArmsHouse" (576 : Nat) ({ cls := "ArmsHouse", name := "ofOrdinary", desc := "(LArmsHouse$Ordinary;I)I" } : Jvm.MethodName)) ∈ lw_all := lw_g (lw_at lw_m4 120 rfl) rfl
theorem q990 : (Jvm.Cond.static ({ cls := "ArmsHouse", name := "ofOrdinary", desc := "(LArmsHouse$Ordinary;I)I" } : Jvm.MethodName)) ∈ lw_all := lw_g (lw_at lw_m4 121 rfl) rfl
theorem q991 : (Jvm.Cond.code ({ cls := "ArmsHouse", name := "ofOrdinary", desc := "(LArmsHouse$Ordinary;I)I" } : Jvm.MethodName) prog_1_method_54_code (2 : Nat) (Option.some Jvm.ClassFile.FieldType.int)) ∈ lw_all := lw_g (lw_at lw_m4 122 rfl) rfl
theorem q992 : (Jvm.Cond.methodLink "ArmsHouse" (580 : Nat) ({ cls := "ArmsHouse", name := "ofLayer", desc := "(LArmsHouse$Layer;I)I" } : Jvm.MethodName)) ∈ lw_all := lw_g (lw_at lw_m4 123 rfl) rfl
theorem q993 : (Jvm.Cond.static ({ cls := "ArmsHouse", name := "ofLayer", desc := "(LArmsHouse$Layer;I)I" } : Jvm.MethodName)) ∈ lw_all := lw_g (lw_at lw_m4 124 rfl) rfl
theorem q994 : (Jvm.Cond.code ({ cls := "ArmsHouse", name := "ofLayer", desc := "(LArmsHouse$Layer;I)I" } : Jvm.MethodName) prog_1_method_55_code (3 : Nat) (Option.some Jvm.ClassFile.FieldType.int)) ∈ lw_all := lw_g (lw_at lw_m4 125 rfl) rfl
theorem q995 : (Jvm.Cond.methodLink "ArmsHouseLaw" (56 : Nat) ({ cls := "ArmsHouse", name := "write", desc := "(I)I" } : Jvm.MethodName)) ∈ lw_all := lw_g (lw_at lw_m4 126 rfl) rfl
theorem q996 : (Jvm.Cond.instanceMethod ({ cls := "ArmsHouse", name := "write", desc := "(I)I" } : Jvm.MethodName)) ∈ lw_all := lw_g (lw_at lw_m4 127 rfl) rfl
theorem q997 : (Jvm.Cond.selects "ArmsHouse" ({ cls := "ArmsHouse", name := "write", desc := "(I)I" } : Jvm.MethodName) ({ cls := "ArmsHouse", name := "write", desc := "(I)I" } : Jvm.MethodName)) ∈ lw_all := lw_g (lw_at lw_m4 128 rfl) rfl
theorem q998 : (Jvm.Cond.code ({ cls := "ArmsHouse", name := "write", desc := "(I)I" } : Jvm.MethodName) prog_1_method_56_code (2 : Nat) (Option.some Jvm.ClassFile.FieldType.int)) ∈ lw_all := lw_g (lw_at lw_m4 129 rfl) rfl
theorem q999 : (Jvm.Cond.methodLink "ArmsHouse" (584 : Nat) ({ cls := "ArmsHouse", name := "writeArms", desc := "(LArmsHouse$Arms;)V" } : Jvm.MethodName)) ∈ lw_all := lw_g (lw_at lw_m4 130 rfl) rfl
theorem q1001 : (Jvm.Cond.instanceMethod ({ cls := "ArmsHouse", name := "writeArms", desc := "(LArmsHouse$Arms;)V" } : Jvm.MethodName)) ∈ lw_all := lw_g (lw_at lw_m4 132 rfl) rfl
theorem q1002 : (Jvm.Cond.code ({ cls := "ArmsHouse", name := "writeArms", desc := "(LArmsHouse$Arms;)V" } : Jvm.MethodName) prog_1_method_17_code (7 : Nat) (Option.none : Option Jvm.ClassFile.FieldType)) ∈ lw_all := lw_g (lw_at lw_m4 133 rfl) rfl
theorem q1003 : (Jvm.Cond.methodLink "ArmsHouse" (167 : Nat) ({ cls := "ArmsHouse", name := "word", desc := "(I)V" } : Jvm.MethodName)) ∈ lw_all := lw_g (lw_at lw_m4 134 rfl) rfl
theorem q1005 : (Jvm.Cond.instanceMethod ({ cls := "ArmsHouse", name := "word", desc := "(I)V" } : Jvm.MethodName)) ∈ lw_all := lw_g (lw_at lw_m4 136 rfl) rfl
theorem q1006 : (Jvm.Cond.code ({ cls := "ArmsHouse", name := "word", desc := "(I)V" } : Jvm.MethodName) prog_1_method_13_code (3 : Nat) (Option.none : Option Jvm.ClassFile.FieldType)) ∈ lw_all := lw_g (lw_at lw_m4 137 rfl) rfl
theorem q1007 : (Jvm.Cond.methodLink "ArmsHouse" (151 : Nat) ({ cls := "ArmsHouse", name := "put", desc := "(I)V" } : Jvm.MethodName)) ∈ lw_all := lw_g (lw_at lw_m4 138 rfl) rfl
theorem q1009 : (Jvm.Cond.instanceMethod ({ cls := "ArmsHouse", name := "put", desc := "(I)V" } : Jvm.MethodName)) ∈ lw_all := lw_g (lw_at lw_m4 140 rfl) rfl
theorem q1010 : (Jvm.Cond.code ({ cls := "ArmsHouse", name := "put", desc := "(I)V" } : Jvm.MethodName) prog_1_method_12_code (2 : Nat) (Option.none : Option Jvm.ClassFile.FieldType)) ∈ lw_all := lw_g (lw_at lw_m4 141 rfl) rfl
theorem q1011 : (Jvm.Cond.methodLink "ArmsHouse" (158 : Nat) ({ cls := "java/lang/String", name := "length", desc := "()I" } : Jvm.MethodName)) ∈ lw_all := lw_g (lw_at lw_m4 142 rfl) rfl
theorem q1012 : (Jvm.Cond.methodLink "ArmsHouse" (163 : Nat) ({ cls := "java/lang/String", name := "charAt", desc := "(I)C" } : Jvm.MethodName)) ∈ lw_all := lw_g (lw_at lw_m4 143 rfl) rfl
theorem q1013 : (Jvm.Cond.methodLink "ArmsHouse" (191 : Nat) ({ cls := "ArmsHouse", name := "writeLine", desc := "(I)V" } : Jvm.MethodName)) ∈ lw_all := lw_g (lw_at lw_m4 144 rfl) rfl
theorem q1015 : (Jvm.Cond.instanceMethod ({ cls := "ArmsHouse", name := "writeLine", desc := "(I)V" } : Jvm.MethodName)) ∈ lw_all := lw_g (lw_at lw_m4 146 rfl) rfl
theorem q1016 : (Jvm.Cond.code ({ cls := "ArmsHouse", name := "writeLine", desc := "(I)V" } : Jvm.MethodName) prog_1_method_15_code (2 : Nat) (Option.none : Option Jvm.ClassFile.FieldType)) ∈ lw_all := lw_g (lw_at lw_m4 147 rfl) rfl
theorem q1017 : (Jvm.Cond.methodLink "ArmsHouse" (172 : Nat) ({ cls := "ArmsHouse", name := "number", desc := "(I)V" } : Jvm.MethodName)) ∈ lw_all := lw_g (lw_at lw_m4 148 rfl) rfl
theorem q1019 : (Jvm.Cond.instanceMethod ({ cls := "ArmsHouse", name := "number", desc := "(I)V" } : Jvm.MethodName)) ∈ lw_all := lw_g (lw_at lw_m4 150 rfl) rfl
theorem q1020 : (Jvm.Cond.code ({ cls := "ArmsHouse", name := "number", desc := "(I)V" } : Jvm.MethodName) prog_1_method_14_code (2 : Nat) (Option.none : Option Jvm.ClassFile.FieldType)) ∈ lw_all := lw_g (lw_at lw_m4 151 rfl) rfl
theorem q1021 : (Jvm.Cond.methodLink "ArmsHouse" (201 : Nat) ({ cls := "ArmsHouse", name := "writeLayer", desc := "(LArmsHouse$Layer;)V" } : Jvm.MethodName)) ∈ lw_all := lw_g (lw_at lw_m4 152 rfl) rfl
theorem q1023 : (Jvm.Cond.instanceMethod ({ cls := "ArmsHouse", name := "writeLayer", desc := "(LArmsHouse$Layer;)V" } : Jvm.MethodName)) ∈ lw_all := lw_g (lw_at lw_m4 154 rfl) rfl
theorem q1024 : (Jvm.Cond.code ({ cls := "ArmsHouse", name := "writeLayer", desc := "(LArmsHouse$Layer;)V" } : Jvm.MethodName) prog_1_method_18_code (2 : Nat) (Option.none : Option Jvm.ClassFile.FieldType)) ∈ lw_all := lw_g (lw_at lw_m4 155 rfl) rfl
theorem q1025 : (Jvm.Cond.methodLink "ArmsHouse" (207 : Nat) ({ cls := "ArmsHouse", name := "writeGroup", desc := "(LArmsHouse$Group;)V" } : Jvm.MethodName)) ∈ lw_all := lw_g (lw_at lw_m4 156 rfl) rfl
theorem q1027 : (Jvm.Cond.instanceMethod ({ cls := "ArmsHouse", name := "writeGroup", desc := "(LArmsHouse$Group;)V" } : Jvm.MethodName)) ∈ lw_all := lw_g (lw_at lw_m4 158 rfl) rfl
theorem q1028 : (Jvm.Cond.code ({ cls := "ArmsHouse", name := "writeGroup", desc := "(LArmsHouse$Group;)V" } : Jvm.MethodName) prog_1_method_16_code (2 : Nat) (Option.none : Option Jvm.ClassFile.FieldType)) ∈ lw_all := lw_g (lw_at lw_m4 159 rfl) rfl
theorem q1029 : (Jvm.Cond.methodLink "ArmsHouseLaw" (60 : Nat) ({ cls := "ArmsHouse", name := "breaches", desc := "(I)I" } : Jvm.MethodName)) ∈ lw_all := lw_g (lw_at lw_m4 160 rfl) rfl
theorem q1030 : (Jvm.Cond.instanceMethod ({ cls := "ArmsHouse", name := "breaches", desc := "(I)I" } : Jvm.MethodName)) ∈ lw_all := lw_g (lw_at lw_m4 161 rfl) rfl
theorem q1031 : (Jvm.Cond.selects "ArmsHouse" ({ cls := "ArmsHouse", name := "breaches", desc := "(I)I" } : Jvm.MethodName) ({ cls := "ArmsHouse", name := "breaches", desc := "(I)I" } : Jvm.MethodName)) ∈ lw_all := lw_g (lw_at lw_m4 162 rfl) rfl
theorem q1032 : (Jvm.Cond.code ({ cls := "ArmsHouse", name := "breaches", desc := "(I)I" } : Jvm.MethodName) prog_1_method_57_code (2 : Nat) (Option.some Jvm.ClassFile.FieldType.int)) ∈ lw_all := lw_g (lw_at lw_m4 163 rfl) rfl
theorem q1033 : (Jvm.Cond.methodLink "ArmsHouseLaw" (64 : Nat) ({ cls := "ArmsHouse", name := "breach", desc := "(II)I" } : Jvm.MethodName)) ∈ lw_all := lw_g (lw_at lw_m4 164 rfl) rfl
theorem q1034 : (Jvm.Cond.instanceMethod ({ cls := "ArmsHouse", name := "breach", desc := "(II)I" } : Jvm.MethodName)) ∈ lw_all := lw_g (lw_at lw_m4 165 rfl) rfl
theorem q1035 : (Jvm.Cond.selects "ArmsHouse" ({ cls := "ArmsHouse", name := "breach", desc := "(II)I" } : Jvm.MethodName) ({ cls := "ArmsHouse", name := "breach", desc := "(II)I" } : Jvm.MethodName)) ∈ lw_all := lw_g (lw_at lw_m4 166 rfl) rfl
theorem q1036 : (Jvm.Cond.code ({ cls := "ArmsHouse", name := "breach", desc := "(II)I" } : Jvm.MethodName) prog_1_method_58_code (4 : Nat) (Option.some Jvm.ClassFile.FieldType.int)) ∈ lw_all := lw_g (lw_at lw_m4 167 rfl) rfl
theorem q1037 : (Jvm.Cond.methodLink "ArmsHouse" (587 : Nat) ({ cls := "ArmsHouse", name := "breaches", desc := "(I)I" } : Jvm.MethodName)) ∈ lw_all := lw_g (lw_at lw_m4 168 rfl) rfl
theorem q1038 : (Jvm.Cond.methodLink "ArmsHouseLaw" (68 : Nat) ({ cls := "ArmsHouse", name := "dot", desc := "(III)I" } : Jvm.MethodName)) ∈ lw_all := lw_g (lw_at lw_m4 169 rfl) rfl
theorem q1039 : (Jvm.Cond.instanceMethod ({ cls := "ArmsHouse", name := "dot", desc := "(III)I" } : Jvm.MethodName)) ∈ lw_all := lw_g (lw_at lw_m4 170 rfl) rfl
theorem q1040 : (Jvm.Cond.selects "ArmsHouse" ({ cls := "ArmsHouse", name := "dot", desc := "(III)I" } : Jvm.MethodName) ({ cls := "ArmsHouse", name := "dot", desc := "(III)I" } : Jvm.MethodName)) ∈ lw_all := lw_g (lw_at lw_m4 171 rfl) rfl
theorem q1041 : (Jvm.Cond.code ({ cls := "ArmsHouse", name := "dot", desc := "(III)I" } : Jvm.MethodName) prog_1_method_59_code (4 : Nat) (Option.some Jvm.ClassFile.FieldType.int)) ∈ lw_all := lw_g (lw_at lw_m4 172 rfl) rfl
theorem q1042 : (Jvm.Cond.constantLong "ArmsHouse" (589 : Nat) (47 : Int64)) ∈ lw_all := lw_g (lw_at lw_m4 173 rfl) rfl
theorem q1043 : (Jvm.Cond.constantLong "ArmsHouse" (591 : Nat) (59 : Int64)) ∈ lw_all := lw_g (lw_at lw_m4 174 rfl) rfl
theorem q1044 : (Jvm.Cond.methodLink "ArmsHouse" (593 : Nat) ({ cls := "ArmsHouse", name := "draw", desc := "(LArmsHouse$Arms;)V" } : Jvm.MethodName)) ∈ lw_all := lw_g (lw_at lw_m4 175 rfl) rfl
theorem q1046 : (Jvm.Cond.instanceMethod ({ cls := "ArmsHouse", name := "draw", desc := "(LArmsHouse$Arms;)V" } : Jvm.MethodName)) ∈ lw_all := lw_g (lw_at lw_m4 177 rfl) rfl
theorem q1047 : (Jvm.Cond.code ({ cls := "ArmsHouse", name := "draw", desc := "(LArmsHouse$Arms;)V" } : Jvm.MethodName) prog_1_method_26_code (5 : Nat) (Option.none : Option Jvm.ClassFile.FieldType)) ∈ lw_all := lw_g (lw_at lw_m4 178 rfl) rfl
theorem q1048 : (Jvm.Cond.methodLink "ArmsHouse" (245 : Nat) ({ cls := "ArmsHouse", name := "isInside", desc := "(II)Z" } : Jvm.MethodName)) ∈ lw_all := lw_g (lw_at lw_m4 179 rfl) rfl
theorem q1049 : (Jvm.Cond.static ({ cls := "ArmsHouse", name := "isInside", desc := "(II)Z" } : Jvm.MethodName)) ∈ lw_all := lw_g (lw_at lw_m4 180 rfl) rfl
theorem q1050 : (Jvm.Cond.code ({ cls := "ArmsHouse", name := "isInside", desc := "(II)Z" } : Jvm.MethodName) prog_1_method_23_code (2 : Nat) (Option.some Jvm.ClassFile.FieldType.boolean)) ∈ lw_all := lw_g (lw_at lw_m4 181 rfl) rfl
theorem q1051 : (Jvm.Cond.constant "ArmsHouse" (241 : Nat) (1327104 : Int32)) ∈ lw_all := lw_g (lw_at lw_m4 182 rfl) rfl
theorem q1052 : (Jvm.Cond.methodLink "ArmsHouse" (259 : Nat) ({ cls := "ArmsHouse", name := "isFirst", desc := "(LArmsHouse$Field;II)Z" } : Jvm.MethodName)) ∈ lw_all := lw_g (lw_at lw_m4 183 rfl) rfl
theorem q1053 : (Jvm.Cond.static ({ cls := "ArmsHouse", name := "isFirst", desc := "(LArmsHouse$Field;II)Z" } : Jvm.MethodName)) ∈ lw_all := lw_g (lw_at lw_m4 184 rfl) rfl
theorem q1054 : (Jvm.Cond.code ({ cls := "ArmsHouse", name := "isFirst", desc := "(LArmsHouse$Field;II)Z" } : Jvm.MethodName) prog_1_method_24_code (3 : Nat) (Option.some Jvm.ClassFile.FieldType.boolean)) ∈ lw_all := lw_g (lw_at lw_m4 185 rfl) rfl
theorem q1055 : (Jvm.Cond.methodLink "ArmsHouse" (242 : Nat) ({ cls := "ArmsHouse", name := "bend", desc := "(II)I" } : Jvm.MethodName)) ∈ lw_all := lw_g (lw_at lw_m4 186 rfl) rfl
theorem q1056 : (Jvm.Cond.static ({ cls := "ArmsHouse", name := "bend", desc := "(II)I" } : Jvm.MethodName)) ∈ lw_all := lw_g (lw_at lw_m4 187 rfl) rfl
theorem q1057 : (Jvm.Cond.code ({ cls := "ArmsHouse", name := "bend", desc := "(II)I" } : Jvm.MethodName) prog_1_method_22_code (2 : Nat) (Option.some Jvm.ClassFile.FieldType.int)) ∈ lw_all := lw_g (lw_at lw_m4 188 rfl) rfl
theorem q1058 : (Jvm.Cond.fieldLink "ArmsHouse" (230 : Nat) "ArmsHouse" "WAVES" "[I") ∈ lw_all := lw_g (lw_at lw_m4 189 rfl) rfl
theorem q1059 : (Jvm.Cond.laysStatic "ArmsHouse" "WAVES" "[I") ∈ lw_tbl := lw_at lw_m4 190 rfl
theorem q1060 : (Jvm.Cond.methodLink "ArmsHouse" (233 : Nat) ({ cls := "java/lang/Math", name := "floorMod", desc := "(II)I" } : Jvm.MethodName)) ∈ lw_all := lw_g (lw_at lw_m4 191 rfl) rfl
theorem q1061 : (Jvm.Cond.static ({ cls := "java/lang/Math", name := "floorMod", desc := "(II)I" } : Jvm.MethodName)) ∈ lw_all := lw_g (lw_at lw_m4 192 rfl) rfl
theorem q1062 : (Jvm.Cond.code ({ cls := "java/lang/Math", name := "floorMod", desc := "(II)I" } : Jvm.MethodName) prog_26_method_50_code (3 : Nat) (Option.some Jvm.ClassFile.FieldType.int)) ∈ lw_all := lw_g (lw_at lw_m4 193 rfl) rfl
theorem q1063 : (Jvm.Cond.methodLink "ArmsHouse" (238 : Nat) ({ cls := "java/lang/Math", name := "abs", desc := "(I)I" } : Jvm.MethodName)) ∈ lw_all := lw_g (lw_at lw_m4 194 rfl) rfl
theorem q1064 : (Jvm.Cond.static ({ cls := "java/lang/Math", name := "abs", desc := "(I)I" } : Jvm.MethodName)) ∈ lw_all := lw_g (lw_at lw_m4 195 rfl) rfl
theorem q1065 : (Jvm.Cond.code ({ cls := "java/lang/Math", name := "abs", desc := "(I)I" } : Jvm.MethodName) prog_26_method_59_code (1 : Nat) (Option.some Jvm.ClassFile.FieldType.int)) ∈ lw_all := lw_g (lw_at lw_m4 196 rfl) rfl
theorem q1066 : (Jvm.Cond.methodLink "ArmsHouse" (263 : Nat) ({ cls := "ArmsHouse", name := "drawLayer", desc := "(LArmsHouse$Layer;I)V" } : Jvm.MethodName)) ∈ lw_all := lw_g (lw_at lw_m4 197 rfl) rfl
theorem q1068 : (Jvm.Cond.instanceMethod ({ cls := "ArmsHouse", name := "drawLayer", desc := "(LArmsHouse$Layer;I)V" } : Jvm.MethodName)) ∈ lw_all := lw_g (lw_at lw_m4 199 rfl) rfl
theorem q1069 : (Jvm.Cond.code ({ cls := "ArmsHouse", name := "drawLayer", desc := "(LArmsHouse$Layer;I)V" } : Jvm.MethodName) prog_1_method_27_code (5 : Nat) (Option.none : Option Jvm.ClassFile.FieldType)) ∈ lw_all := lw_g (lw_at lw_m4 200 rfl) rfl
theorem q1070 : (Jvm.Cond.methodLink "ArmsHouse" (270 : Nat) ({ cls := "ArmsHouse", name := "isOn", desc := "(LArmsHouse$Ordinary;II)Z" } : Jvm.MethodName)) ∈ lw_all := lw_g (lw_at lw_m4 201 rfl) rfl
theorem q1071 : (Jvm.Cond.static ({ cls := "ArmsHouse", name := "isOn", desc := "(LArmsHouse$Ordinary;II)Z" } : Jvm.MethodName)) ∈ lw_all := lw_g (lw_at lw_m4 202 rfl) rfl
theorem q1072 : (Jvm.Cond.code ({ cls := "ArmsHouse", name := "isOn", desc := "(LArmsHouse$Ordinary;II)Z" } : Jvm.MethodName) prog_1_method_25_code (4 : Nat) (Option.some Jvm.ClassFile.FieldType.boolean)) ∈ lw_all := lw_g (lw_at lw_m4 203 rfl) rfl
theorem q1073 : (Jvm.Cond.methodLink "ArmsHouse" (277 : Nat) ({ cls := "ArmsHouse", name := "setPlaces", desc := "(LArmsHouse$Layer;)V" } : Jvm.MethodName)) ∈ lw_all := lw_g (lw_at lw_m4 204 rfl) rfl
theorem q1075 : (Jvm.Cond.instanceMethod ({ cls := "ArmsHouse", name := "setPlaces", desc := "(LArmsHouse$Layer;)V" } : Jvm.MethodName)) ∈ lw_all := lw_g (lw_at lw_m4 206 rfl) rfl
theorem q1076 : (Jvm.Cond.code ({ cls := "ArmsHouse", name := "setPlaces", desc := "(LArmsHouse$Layer;)V" } : Jvm.MethodName) prog_1_method_28_code (5 : Nat) (Option.none : Option Jvm.ClassFile.FieldType)) ∈ lw_all := lw_g (lw_at lw_m4 207 rfl) rfl
theorem q1077 : (Jvm.Cond.methodLink "ArmsHouse" (288 : Nat) ({ cls := "ArmsHouse", name := "box", desc := "(II)V" } : Jvm.MethodName)) ∈ lw_all := lw_g (lw_at lw_m4 208 rfl) rfl
theorem q1079 : (Jvm.Cond.instanceMethod ({ cls := "ArmsHouse", name := "box", desc := "(II)V" } : Jvm.MethodName)) ∈ lw_all := lw_g (lw_at lw_m4 210 rfl) rfl
theorem q1080 : (Jvm.Cond.code ({ cls := "ArmsHouse", name := "box", desc := "(II)V" } : Jvm.MethodName) prog_1_method_29_code (13 : Nat) (Option.none : Option Jvm.ClassFile.FieldType)) ∈ lw_all := lw_g (lw_at lw_m4 211 rfl) rfl
theorem q1081 : (Jvm.Cond.fieldLink "ArmsHouse" (297 : Nat) "ArmsHouse" "ROWS" "[I") ∈ lw_all := lw_g (lw_at lw_m4 212 rfl) rfl
theorem q1082 : (Jvm.Cond.laysStatic "ArmsHouse" "ROWS" "[I") ∈ lw_tbl := lw_at lw_m4 213 rfl
theorem q1083 : (Jvm.Cond.methodLink "ArmsHouse" (280 : Nat) ({ cls := "ArmsHouse", name := "fits", desc := "(LArmsHouse$Layer;I)Z" } : Jvm.MethodName)) ∈ lw_all := lw_g (lw_at lw_m4 214 rfl) rfl
theorem q1085 : (Jvm.Cond.instanceMethod ({ cls := "ArmsHouse", name := "fits", desc := "(LArmsHouse$Layer;I)Z" } : Jvm.MethodName)) ∈ lw_all := lw_g (lw_at lw_m4 216 rfl) rfl
theorem q1086 : (Jvm.Cond.code ({ cls := "ArmsHouse", name := "fits", desc := "(LArmsHouse$Layer;I)Z" } : Jvm.MethodName) prog_1_method_31_code (6 : Nat) (Option.some Jvm.ClassFile.FieldType.boolean)) ∈ lw_all := lw_g (lw_at lw_m4 217 rfl) rfl
theorem q1087 : (Jvm.Cond.methodLink "ArmsHouse" (306 : Nat) ({ cls := "ArmsHouse", name := "covers", desc := "(IIII)Z" } : Jvm.MethodName)) ∈ lw_all := lw_g (lw_at lw_m4 218 rfl) rfl
theorem q1088 : (Jvm.Cond.static ({ cls := "ArmsHouse", name := "covers", desc := "(IIII)Z" } : Jvm.MethodName)) ∈ lw_all := lw_g (lw_at lw_m4 219 rfl) rfl
theorem q1089 : (Jvm.Cond.code ({ cls := "ArmsHouse", name := "covers", desc := "(IIII)Z" } : Jvm.MethodName) prog_1_method_30_code (4 : Nat) (Option.some Jvm.ClassFile.FieldType.boolean)) ∈ lw_all := lw_g (lw_at lw_m4 220 rfl) rfl
theorem q1090 : (Jvm.Cond.methodLink "ArmsHouse" (310 : Nat) ({ cls := "ArmsHouse", name := "isFree", desc := "(LArmsHouse$Layer;II)Z" } : Jvm.MethodName)) ∈ lw_all := lw_g (lw_at lw_m4 221 rfl) rfl
theorem q1092 : (Jvm.Cond.instanceMethod ({ cls := "ArmsHouse", name := "isFree", desc := "(LArmsHouse$Layer;II)Z" } : Jvm.MethodName)) ∈ lw_all := lw_g (lw_at lw_m4 223 rfl) rfl
theorem q1093 : (Jvm.Cond.code ({ cls := "ArmsHouse", name := "isFree", desc := "(LArmsHouse$Layer;II)Z" } : Jvm.MethodName) prog_1_method_32_code (5 : Nat) (Option.some Jvm.ClassFile.FieldType.boolean)) ∈ lw_all := lw_g (lw_at lw_m4 224 rfl) rfl
theorem q1094 : (Jvm.Cond.methodLink "ArmsHouse" (284 : Nat) ({ cls := "ArmsHouse", name := "drawThing", desc := "(LArmsHouse$Group;II)V" } : Jvm.MethodName)) ∈ lw_all := lw_g (lw_at lw_m4 225 rfl) rfl
theorem q1096 : (Jvm.Cond.instanceMethod ({ cls := "ArmsHouse", name := "drawThing", desc := "(LArmsHouse$Group;II)V" } : Jvm.MethodName)) ∈ lw_all := lw_g (lw_at lw_m4 227 rfl) rfl
theorem q1097 : (Jvm.Cond.code ({ cls := "ArmsHouse", name := "drawThing", desc := "(LArmsHouse$Group;II)V" } : Jvm.MethodName) prog_1_method_33_code (6 : Nat) (Option.none : Option Jvm.ClassFile.FieldType)) ∈ lw_all := lw_g (lw_at lw_m4 228 rfl) rfl
theorem q1098 : (Jvm.Cond.methodLink "ArmsHouseLaw" (72 : Nat) ({ cls := "ArmsHouse", name := "dots", desc := "(II)I" } : Jvm.MethodName)) ∈ lw_all := lw_g (lw_at lw_m4 229 rfl) rfl
theorem q1099 : (Jvm.Cond.instanceMethod ({ cls := "ArmsHouse", name := "dots", desc := "(II)I" } : Jvm.MethodName)) ∈ lw_all := lw_g (lw_at lw_m4 230 rfl) rfl
theorem q1100 : (Jvm.Cond.selects "ArmsHouse" ({ cls := "ArmsHouse", name := "dots", desc := "(II)I" } : Jvm.MethodName) ({ cls := "ArmsHouse", name := "dots", desc := "(II)I" } : Jvm.MethodName)) ∈ lw_all := lw_g (lw_at lw_m4 231 rfl) rfl
theorem q1101 : (Jvm.Cond.code ({ cls := "ArmsHouse", name := "dots", desc := "(II)I" } : Jvm.MethodName) prog_1_method_60_code (8 : Nat) (Option.some Jvm.ClassFile.FieldType.int)) ∈ lw_all := lw_g (lw_at lw_m4 232 rfl) rfl
theorem q1102 : (Jvm.Cond.methodLink "ArmsHouseLaw" (76 : Nat) ({ cls := "ArmsHouse", name := "size", desc := "(II)I" } : Jvm.MethodName)) ∈ lw_all := lw_g (lw_at lw_m4 233 rfl) rfl
theorem q1103 : (Jvm.Cond.instanceMethod ({ cls := "ArmsHouse", name := "size", desc := "(II)I" } : Jvm.MethodName)) ∈ lw_all := lw_g (lw_at lw_m4 234 rfl) rfl
theorem q1104 : (Jvm.Cond.selects "ArmsHouse" ({ cls := "ArmsHouse", name := "size", desc := "(II)I" } : Jvm.MethodName) ({ cls := "ArmsHouse", name := "size", desc := "(II)I" } : Jvm.MethodName)) ∈ lw_all := lw_g (lw_at lw_m4 235 rfl) rfl
theorem q1105 : (Jvm.Cond.code ({ cls := "ArmsHouse", name := "size", desc := "(II)I" } : Jvm.MethodName) prog_1_method_61_code (4 : Nat) (Option.some Jvm.ClassFile.FieldType.int)) ∈ lw_all := lw_g (lw_at lw_m4 236 rfl) rfl
theorem q1106 : (Jvm.Cond.methodLink "ArmsHouseLaw" (80 : Nat) ({ cls := "ArmsHouse", name := "person", desc := "(ZIIII)I" } : Jvm.MethodName)) ∈ lw_all := lw_g (lw_at lw_m4 237 rfl) rfl
theorem q1107 : (Jvm.Cond.instanceMethod ({ cls := "ArmsHouse", name := "person", desc := "(ZIIII)I" } : Jvm.MethodName)) ∈ lw_all := lw_g (lw_at lw_m4 238 rfl) rfl
theorem q1108 : (Jvm.Cond.selects "ArmsHouse" ({ cls := "ArmsHouse", name := "person", desc := "(ZIIII)I" } : Jvm.MethodName) ({ cls := "ArmsHouse", name := "person", desc := "(ZIIII)I" } : Jvm.MethodName)) ∈ lw_all := lw_g (lw_at lw_m4 239 rfl) rfl
theorem q1109 : (Jvm.Cond.code ({ cls := "ArmsHouse", name := "person", desc := "(ZIIII)I" } : Jvm.MethodName) prog_1_method_63_code (9 : Nat) (Option.some Jvm.ClassFile.FieldType.int)) ∈ lw_all := lw_g (lw_at lw_m5 0 rfl) rfl
theorem q1110 : (Jvm.Cond.methodLink "ArmsHouse" (599 : Nat) ({ cls := "ArmsHouse", name := "mayBeParent", desc := "(I)Z" } : Jvm.MethodName)) ∈ lw_all := lw_g (lw_at lw_m5 1 rfl) rfl
theorem q1112 : (Jvm.Cond.instanceMethod ({ cls := "ArmsHouse", name := "mayBeParent", desc := "(I)Z" } : Jvm.MethodName)) ∈ lw_all := lw_g (lw_at lw_m5 3 rfl) rfl
theorem q1113 : (Jvm.Cond.code ({ cls := "ArmsHouse", name := "mayBeParent", desc := "(I)Z" } : Jvm.MethodName) prog_1_method_62_code (2 : Nat) (Option.some Jvm.ClassFile.FieldType.boolean)) ∈ lw_all := lw_g (lw_at lw_m5 4 rfl) rfl
theorem q1114 : (Jvm.Cond.methodLink "ArmsHouse" (602 : Nat) ({ cls := "ArmsHouse", name := "isDay", desc := "(I)Z" } : Jvm.MethodName)) ∈ lw_all := lw_g (lw_at lw_m5 5 rfl) rfl
theorem q1115 : (Jvm.Cond.static ({ cls := "ArmsHouse", name := "isDay", desc := "(I)Z" } : Jvm.MethodName)) ∈ lw_all := lw_g (lw_at lw_m5 6 rfl) rfl
theorem q1116 : (Jvm.Cond.code ({ cls := "ArmsHouse", name := "isDay", desc := "(I)Z" } : Jvm.MethodName) prog_1_method_39_code (1 : Nat) (Option.some Jvm.ClassFile.FieldType.boolean)) ∈ lw_all := lw_g (lw_at lw_m5 7 rfl) rfl
theorem q1117 : (Jvm.Cond.constantLong "ArmsHouse" (521 : Nat) (9999 : Int64)) ∈ lw_all := lw_g (lw_at lw_m5 8 rfl) rfl
theorem q1118 : (Jvm.Cond.instantiable "ArmsHouse$Person" (7 : Nat)) ∈ lw_all := lw_g (lw_at lw_m5 9 rfl) rfl
theorem q1119 : (Jvm.Cond.methodLinkNest "ArmsHouse" (611 : Nat) ({ cls := "ArmsHouse$Person", name := "<init>", desc := "()V" } : Jvm.MethodName) "ArmsHouse") ∈ lw_tbl := lw_at lw_m5 10 rfl
theorem q1120 : (Jvm.Cond.instanceMethod ({ cls := "ArmsHouse$Person", name := "<init>", desc := "()V" } : Jvm.MethodName)) ∈ lw_all := lw_g (lw_at lw_m5 11 rfl) rfl
theorem q1121 : (Jvm.Cond.code ({ cls := "ArmsHouse$Person", name := "<init>", desc := "()V" } : Jvm.MethodName) prog_12_method_1_code (1 : Nat) (Option.none : Option Jvm.ClassFile.FieldType)) ∈ lw_all := lw_g (lw_at lw_m5 12 rfl) rfl
theorem q1122 : (Jvm.Cond.methodLink "ArmsHouse$Person" (3 : Nat) ({ cls := "java/lang/Object", name := "<init>", desc := "()V" } : Jvm.MethodName)) ∈ lw_all := lw_g (lw_at lw_m5 13 rfl) rfl
theorem q1123 : (Jvm.Cond.fieldLink "ArmsHouse" (605 : Nat) "ArmsHouse$Person" "woman" "Z") ∈ lw_all := lw_g (lw_at lw_m5 14 rfl) rfl
theorem q1124 : (Jvm.Cond.fieldLink "ArmsHouse" (612 : Nat) "ArmsHouse$Person" "father" "LArmsHouse$Person;") ∈ lw_all := lw_g (lw_at lw_m5 15 rfl) rfl
theorem q1125 : (Jvm.Cond.fieldLink "ArmsHouse" (616 : Nat) "ArmsHouse$Person" "mother" "LArmsHouse$Person;") ∈ lw_all := lw_g (lw_at lw_m5 16 rfl) rfl
theorem q1126 : (Jvm.Cond.fieldLink "ArmsHouse" (622 : Nat) "ArmsHouse$Person" "number" "I") ∈ lw_all := lw_g (lw_at lw_m5 17 rfl) rfl
theorem q1127 : (Jvm.Cond.fieldLink "ArmsHouse$Person" (15 : Nat) "ArmsHouse$Person" "born" "I") ∈ lw_all := lw_g (lw_at lw_m5 18 rfl) rfl
theorem q1128 : (Jvm.Cond.fieldLink "ArmsHouse" (608 : Nat) "ArmsHouse$Person" "born" "I") ∈ lw_all := lw_g (lw_at lw_m5 19 rfl) rfl
theorem q1129 : (Jvm.Cond.fieldLink "ArmsHouse$Person" (9 : Nat) "ArmsHouse$Person" "died" "I") ∈ lw_all := lw_g (lw_at lw_m5 20 rfl) rfl
theorem q1130 : (Jvm.Cond.fieldLink "ArmsHouse" (626 : Nat) "ArmsHouse$Person" "died" "I") ∈ lw_all := lw_g (lw_at lw_m5 21 rfl) rfl
theorem q1131 : (Jvm.Cond.fieldLink "ArmsHouse" (619 : Nat) "ArmsHouse$Person" "own" "I") ∈ lw_all := lw_g (lw_at lw_m5 22 rfl) rfl
theorem q1132 : (Jvm.Cond.lays "ArmsHouse$Person" "ArmsHouse$Person" "woman" "Z") ∈ lw_all := lw_g (lw_at lw_m5 23 rfl) rfl
theorem q1134 : (Jvm.Cond.lays "ArmsHouse$Person" "ArmsHouse$Person" "father" "LArmsHouse$Person;") ∈ lw_all := lw_g (lw_at lw_m5 25 rfl) rfl
theorem q1136 : (Jvm.Cond.lays "ArmsHouse$Person" "ArmsHouse$Person" "mother" "LArmsHouse$Person;") ∈ lw_all := lw_g (lw_at lw_m5 27 rfl) rfl
theorem q1138 : (Jvm.Cond.lays "ArmsHouse$Person" "ArmsHouse$Person" "number" "I") ∈ lw_all := lw_g (lw_at lw_m5 29 rfl) rfl
theorem q1140 : (Jvm.Cond.lays "ArmsHouse$Person" "ArmsHouse$Person" "born" "I") ∈ lw_all := lw_g (lw_at lw_m5 31 rfl) rfl
theorem q1142 : (Jvm.Cond.lays "ArmsHouse$Person" "ArmsHouse$Person" "died" "I") ∈ lw_all := lw_g (lw_at lw_m5 33 rfl) rfl
theorem q1144 : (Jvm.Cond.lays "ArmsHouse$Person" "ArmsHouse$Person" "own" "I") ∈ lw_all := lw_g (lw_at lw_m5 35 rfl) rfl
theorem q1147 : (Jvm.Cond.methodLink "ArmsHouseLaw" (85 : Nat) ({ cls := "ArmsHouse", name := "dies", desc := "(II)I" } : Jvm.MethodName)) ∈ lw_all := lw_g (lw_at lw_m5 38 rfl) rfl
theorem q1148 : (Jvm.Cond.instanceMethod ({ cls := "ArmsHouse", name := "dies", desc := "(II)I" } : Jvm.MethodName)) ∈ lw_all := lw_g (lw_at lw_m5 39 rfl) rfl
theorem q1149 : (Jvm.Cond.selects "ArmsHouse" ({ cls := "ArmsHouse", name := "dies", desc := "(II)I" } : Jvm.MethodName) ({ cls := "ArmsHouse", name := "dies", desc := "(II)I" } : Jvm.MethodName)) ∈ lw_all := lw_g (lw_at lw_m5 40 rfl) rfl
theorem q1150 : (Jvm.Cond.code ({ cls := "ArmsHouse", name := "dies", desc := "(II)I" } : Jvm.MethodName) prog_1_method_65_code (4 : Nat) (Option.some Jvm.ClassFile.FieldType.int)) ∈ lw_all := lw_g (lw_at lw_m5 41 rfl) rfl
theorem q1151 : (Jvm.Cond.methodLink "ArmsHouse" (623 : Nat) ({ cls := "ArmsHouse", name := "isPerson", desc := "(I)Z" } : Jvm.MethodName)) ∈ lw_all := lw_g (lw_at lw_m5 42 rfl) rfl
theorem q1153 : (Jvm.Cond.instanceMethod ({ cls := "ArmsHouse", name := "isPerson", desc := "(I)Z" } : Jvm.MethodName)) ∈ lw_all := lw_g (lw_at lw_m5 44 rfl) rfl
theorem q1154 : (Jvm.Cond.code ({ cls := "ArmsHouse", name := "isPerson", desc := "(I)Z" } : Jvm.MethodName) prog_1_method_64_code (2 : Nat) (Option.some Jvm.ClassFile.FieldType.boolean)) ∈ lw_all := lw_g (lw_at lw_m5 45 rfl) rfl
theorem q1155 : (Jvm.Cond.methodLink "ArmsHouseLaw" (89 : Nat) ({ cls := "ArmsHouse", name := "quarter", desc := "(III)I" } : Jvm.MethodName)) ∈ lw_all := lw_g (lw_at lw_m5 46 rfl) rfl
theorem q1156 : (Jvm.Cond.instanceMethod ({ cls := "ArmsHouse", name := "quarter", desc := "(III)I" } : Jvm.MethodName)) ∈ lw_all := lw_g (lw_at lw_m5 47 rfl) rfl
theorem q1157 : (Jvm.Cond.selects "ArmsHouse" ({ cls := "ArmsHouse", name := "quarter", desc := "(III)I" } : Jvm.MethodName) ({ cls := "ArmsHouse", name := "quarter", desc := "(III)I" } : Jvm.MethodName)) ∈ lw_all := lw_g (lw_at lw_m5 48 rfl) rfl
theorem q1158 : (Jvm.Cond.code ({ cls := "ArmsHouse", name := "quarter", desc := "(III)I" } : Jvm.MethodName) prog_1_method_70_code (4 : Nat) (Option.some Jvm.ClassFile.FieldType.int)) ∈ lw_all := lw_g (lw_at lw_m5 49 rfl) rfl
theorem q1159 : (Jvm.Cond.methodLink "ArmsHouse" (640 : Nat) ({ cls := "ArmsHouse", name := "marshal", desc := "(I)V" } : Jvm.MethodName)) ∈ lw_all := lw_g (lw_at lw_m5 50 rfl) rfl
theorem q1161 : (Jvm.Cond.instanceMethod ({ cls := "ArmsHouse", name := "marshal", desc := "(I)V" } : Jvm.MethodName)) ∈ lw_all := lw_g (lw_at lw_m5 52 rfl) rfl
theorem q1162 : (Jvm.Cond.code ({ cls := "ArmsHouse", name := "marshal", desc := "(I)V" } : Jvm.MethodName) prog_1_method_69_code (4 : Nat) (Option.none : Option Jvm.ClassFile.FieldType)) ∈ lw_all := lw_g (lw_at lw_m5 53 rfl) rfl
theorem q1163 : (Jvm.Cond.methodLink "ArmsHouse" (629 : Nat) ({ cls := "ArmsHouse", name := "addQuarter", desc := "(II)V" } : Jvm.MethodName)) ∈ lw_all := lw_g (lw_at lw_m5 54 rfl) rfl
theorem q1165 : (Jvm.Cond.instanceMethod ({ cls := "ArmsHouse", name := "addQuarter", desc := "(II)V" } : Jvm.MethodName)) ∈ lw_all := lw_g (lw_at lw_m5 56 rfl) rfl
theorem q1166 : (Jvm.Cond.code ({ cls := "ArmsHouse", name := "addQuarter", desc := "(II)V" } : Jvm.MethodName) prog_1_method_67_code (5 : Nat) (Option.none : Option Jvm.ClassFile.FieldType)) ∈ lw_all := lw_g (lw_at lw_m5 57 rfl) rfl
theorem q1167 : (Jvm.Cond.methodLink "ArmsHouse" (632 : Nat) ({ cls := "ArmsHouse", name := "addQuarters", desc := "(ILArmsHouse$Person;)V" } : Jvm.MethodName)) ∈ lw_all := lw_g (lw_at lw_m5 58 rfl) rfl
theorem q1169 : (Jvm.Cond.instanceMethod ({ cls := "ArmsHouse", name := "addQuarters", desc := "(ILArmsHouse$Person;)V" } : Jvm.MethodName)) ∈ lw_all := lw_g (lw_at lw_m5 60 rfl) rfl
theorem q1170 : (Jvm.Cond.code ({ cls := "ArmsHouse", name := "addQuarters", desc := "(ILArmsHouse$Person;)V" } : Jvm.MethodName) prog_1_method_68_code (4 : Nat) (Option.none : Option Jvm.ClassFile.FieldType)) ∈ lw_all := lw_g (lw_at lw_m5 61 rfl) rfl
theorem q1171 : (Jvm.Cond.methodLink "ArmsHouse" (636 : Nat) ({ cls := "ArmsHouse", name := "isHeiress", desc := "(LArmsHouse$Person;I)Z" } : Jvm.MethodName)) ∈ lw_all := lw_g (lw_at lw_m5 62 rfl) rfl
theorem q1173 : (Jvm.Cond.instanceMethod ({ cls := "ArmsHouse", name := "isHeiress", desc := "(LArmsHouse$Person;I)Z" } : Jvm.MethodName)) ∈ lw_all := lw_g (lw_at lw_m5 64 rfl) rfl
theorem q1174 : (Jvm.Cond.code ({ cls := "ArmsHouse", name := "isHeiress", desc := "(LArmsHouse$Person;I)Z" } : Jvm.MethodName) prog_1_method_66_code (5 : Nat) (Option.some Jvm.ClassFile.FieldType.boolean)) ∈ lw_all := lw_g (lw_at lw_m5 65 rfl) rfl
theorem q1175 : (Jvm.Cond.methodLink "ArmsHouseLaw" (93 : Nat) ({ cls := "ArmsHouse", name := "mark", desc := "(III)I" } : Jvm.MethodName)) ∈ lw_all := lw_g (lw_at lw_m5 66 rfl) rfl
theorem q1176 : (Jvm.Cond.instanceMethod ({ cls := "ArmsHouse", name := "mark", desc := "(III)I" } : Jvm.MethodName)) ∈ lw_all := lw_g (lw_at lw_m5 67 rfl) rfl
theorem q1177 : (Jvm.Cond.selects "ArmsHouse" ({ cls := "ArmsHouse", name := "mark", desc := "(III)I" } : Jvm.MethodName) ({ cls := "ArmsHouse", name := "mark", desc := "(III)I" } : Jvm.MethodName)) ∈ lw_all := lw_g (lw_at lw_m5 68 rfl) rfl
theorem q1178 : (Jvm.Cond.code ({ cls := "ArmsHouse", name := "mark", desc := "(III)I" } : Jvm.MethodName) prog_1_method_72_code (6 : Nat) (Option.some Jvm.ClassFile.FieldType.int)) ∈ lw_all := lw_g (lw_at lw_m5 69 rfl) rfl
theorem q1179 : (Jvm.Cond.methodLink "ArmsHouse" (646 : Nat) ({ cls := "ArmsHouse", name := "markOf", desc := "(LArmsHouse$Person;I)I" } : Jvm.MethodName)) ∈ lw_all := lw_g (lw_at lw_m5 70 rfl) rfl
theorem q1181 : (Jvm.Cond.instanceMethod ({ cls := "ArmsHouse", name := "markOf", desc := "(LArmsHouse$Person;I)I" } : Jvm.MethodName)) ∈ lw_all := lw_g (lw_at lw_m5 72 rfl) rfl
theorem q1182 : (Jvm.Cond.code ({ cls := "ArmsHouse", name := "markOf", desc := "(LArmsHouse$Person;I)I" } : Jvm.MethodName) prog_1_method_71_code (7 : Nat) (Option.some Jvm.ClassFile.FieldType.int)) ∈ lw_all := lw_g (lw_at lw_m5 73 rfl) rfl
theorem q1183 : (Jvm.Cond.methodLink "ArmsHouse" (643 : Nat) ({ cls := "ArmsHouse$Person", name := "livesOn", desc := "(I)Z" } : Jvm.MethodName)) ∈ lw_all := lw_g (lw_at lw_m5 74 rfl) rfl
theorem q1184 : (Jvm.Cond.instanceMethod ({ cls := "ArmsHouse$Person", name := "livesOn", desc := "(I)Z" } : Jvm.MethodName)) ∈ lw_all := lw_g (lw_at lw_m5 75 rfl) rfl
theorem q1185 : (Jvm.Cond.selects "ArmsHouse$Person" ({ cls := "ArmsHouse$Person", name := "livesOn", desc := "(I)Z" } : Jvm.MethodName) ({ cls := "ArmsHouse$Person", name := "livesOn", desc := "(I)Z" } : Jvm.MethodName)) ∈ lw_all := lw_g (lw_at lw_m5 76 rfl) rfl
theorem q1186 : (Jvm.Cond.code ({ cls := "ArmsHouse$Person", name := "livesOn", desc := "(I)Z" } : Jvm.MethodName) prog_12_method_2_code (2 : Nat) (Option.some Jvm.ClassFile.FieldType.boolean)) ∈ lw_all := lw_g (lw_at lw_m5 77 rfl) rfl
theorem q1187 : (Jvm.Cond.methodLink "ArmsHouseLaw" (97 : Nat) ({ cls := "ArmsHouse", name := "clashes", desc := "(I)I" } : Jvm.MethodName)) ∈ lw_all := lw_g (lw_at lw_m5 78 rfl) rfl
theorem q1188 : (Jvm.Cond.instanceMethod ({ cls := "ArmsHouse", name := "clashes", desc := "(I)I" } : Jvm.MethodName)) ∈ lw_all := lw_g (lw_at lw_m5 79 rfl) rfl
theorem q1189 : (Jvm.Cond.selects "ArmsHouse" ({ cls := "ArmsHouse", name := "clashes", desc := "(I)I" } : Jvm.MethodName) ({ cls := "ArmsHouse", name := "clashes", desc := "(I)I" } : Jvm.MethodName)) ∈ lw_all := lw_g (lw_at lw_m5 80 rfl) rfl
theorem q1190 : (Jvm.Cond.code ({ cls := "ArmsHouse", name := "clashes", desc := "(I)I" } : Jvm.MethodName) prog_1_method_75_code (2 : Nat) (Option.some Jvm.ClassFile.FieldType.int)) ∈ lw_all := lw_g (lw_at lw_m5 81 rfl) rfl
theorem q1191 : (Jvm.Cond.methodLink "ArmsHouse" (657 : Nat) ({ cls := "ArmsHouse", name := "clashesOf", desc := "(II)I" } : Jvm.MethodName)) ∈ lw_all := lw_g (lw_at lw_m5 82 rfl) rfl
theorem q1193 : (Jvm.Cond.instanceMethod ({ cls := "ArmsHouse", name := "clashesOf", desc := "(II)I" } : Jvm.MethodName)) ∈ lw_all := lw_g (lw_at lw_m5 84 rfl) rfl
theorem q1194 : (Jvm.Cond.code ({ cls := "ArmsHouse", name := "clashesOf", desc := "(II)I" } : Jvm.MethodName) prog_1_method_74_code (7 : Nat) (Option.some Jvm.ClassFile.FieldType.int)) ∈ lw_all := lw_g (lw_at lw_m5 85 rfl) rfl
theorem q1195 : (Jvm.Cond.methodLink "ArmsHouse" (650 : Nat) ({ cls := "ArmsHouse", name := "areAlike", desc := "(III)Z" } : Jvm.MethodName)) ∈ lw_all := lw_g (lw_at lw_m5 86 rfl) rfl
theorem q1197 : (Jvm.Cond.instanceMethod ({ cls := "ArmsHouse", name := "areAlike", desc := "(III)Z" } : Jvm.MethodName)) ∈ lw_all := lw_g (lw_at lw_m5 88 rfl) rfl
theorem q1198 : (Jvm.Cond.code ({ cls := "ArmsHouse", name := "areAlike", desc := "(III)Z" } : Jvm.MethodName) prog_1_method_73_code (6 : Nat) (Option.some Jvm.ClassFile.FieldType.boolean)) ∈ lw_all := lw_g (lw_at lw_m5 89 rfl) rfl
theorem q1199 : (Jvm.Cond.methodLink "ArmsHouseLaw" (101 : Nat) ({ cls := "ArmsHouse", name := "clash", desc := "(II)I" } : Jvm.MethodName)) ∈ lw_all := lw_g (lw_at lw_m5 90 rfl) rfl
theorem q1200 : (Jvm.Cond.instanceMethod ({ cls := "ArmsHouse", name := "clash", desc := "(II)I" } : Jvm.MethodName)) ∈ lw_all := lw_g (lw_at lw_m5 91 rfl) rfl
theorem q1201 : (Jvm.Cond.selects "ArmsHouse" ({ cls := "ArmsHouse", name := "clash", desc := "(II)I" } : Jvm.MethodName) ({ cls := "ArmsHouse", name := "clash", desc := "(II)I" } : Jvm.MethodName)) ∈ lw_all := lw_g (lw_at lw_m5 92 rfl) rfl
theorem q1202 : (Jvm.Cond.code ({ cls := "ArmsHouse", name := "clash", desc := "(II)I" } : Jvm.MethodName) prog_1_method_76_code (3 : Nat) (Option.some Jvm.ClassFile.FieldType.int)) ∈ lw_all := lw_g (lw_at lw_m5 93 rfl) rfl
theorem q1203 : (Jvm.Cond.methodLink "ArmsHouseLaw" (105 : Nat) ({ cls := "ArmsHouse", name := "enter", desc := "(II)I" } : Jvm.MethodName)) ∈ lw_all := lw_g (lw_at lw_m5 94 rfl) rfl
theorem q1204 : (Jvm.Cond.instanceMethod ({ cls := "ArmsHouse", name := "enter", desc := "(II)I" } : Jvm.MethodName)) ∈ lw_all := lw_g (lw_at lw_m5 95 rfl) rfl
theorem q1205 : (Jvm.Cond.selects "ArmsHouse" ({ cls := "ArmsHouse", name := "enter", desc := "(II)I" } : Jvm.MethodName) ({ cls := "ArmsHouse", name := "enter", desc := "(II)I" } : Jvm.MethodName)) ∈ lw_all := lw_g (lw_at lw_m5 96 rfl) rfl
theorem q1206 : (Jvm.Cond.code ({ cls := "ArmsHouse", name := "enter", desc := "(II)I" } : Jvm.MethodName) prog_1_method_77_code (3 : Nat) (Option.some Jvm.ClassFile.FieldType.int)) ∈ lw_all := lw_g (lw_at lw_m5 97 rfl) rfl
theorem q1207 : (Jvm.Cond.methodLink "ArmsHouseLaw" (109 : Nat) ({ cls := "ArmsHouse", name := "strike", desc := "(II)I" } : Jvm.MethodName)) ∈ lw_all := lw_g (lw_at lw_m5 98 rfl) rfl
theorem q1208 : (Jvm.Cond.instanceMethod ({ cls := "ArmsHouse", name := "strike", desc := "(II)I" } : Jvm.MethodName)) ∈ lw_all := lw_g (lw_at lw_m5 99 rfl) rfl
theorem q1209 : (Jvm.Cond.selects "ArmsHouse" ({ cls := "ArmsHouse", name := "strike", desc := "(II)I" } : Jvm.MethodName) ({ cls := "ArmsHouse", name := "strike", desc := "(II)I" } : Jvm.MethodName)) ∈ lw_all := lw_g (lw_at lw_m5 100 rfl) rfl
theorem q1210 : (Jvm.Cond.code ({ cls := "ArmsHouse", name := "strike", desc := "(II)I" } : Jvm.MethodName) prog_1_method_78_code (3 : Nat) (Option.some Jvm.ClassFile.FieldType.int)) ∈ lw_all := lw_g (lw_at lw_m5 101 rfl) rfl
theorem q1211 : (Jvm.Cond.methodLink "ArmsHouseLaw" (113 : Nat) ({ cls := "ArmsHouse", name := "points", desc := "(II)I" } : Jvm.MethodName)) ∈ lw_all := lw_g (lw_at lw_m5 102 rfl) rfl
theorem q1212 : (Jvm.Cond.instanceMethod ({ cls := "ArmsHouse", name := "points", desc := "(II)I" } : Jvm.MethodName)) ∈ lw_all := lw_g (lw_at lw_m5 103 rfl) rfl
theorem q1213 : (Jvm.Cond.selects "ArmsHouse" ({ cls := "ArmsHouse", name := "points", desc := "(II)I" } : Jvm.MethodName) ({ cls := "ArmsHouse", name := "points", desc := "(II)I" } : Jvm.MethodName)) ∈ lw_all := lw_g (lw_at lw_m5 104 rfl) rfl
theorem q1214 : (Jvm.Cond.code ({ cls := "ArmsHouse", name := "points", desc := "(II)I" } : Jvm.MethodName) prog_1_method_79_code (3 : Nat) (Option.some Jvm.ClassFile.FieldType.int)) ∈ lw_all := lw_g (lw_at lw_m5 105 rfl) rfl
theorem q1215 : (Jvm.Cond.methodLink "ArmsHouseLaw" (117 : Nat) ({ cls := "ArmsHouse", name := "conflicts", desc := "(II)I" } : Jvm.MethodName)) ∈ lw_all := lw_g (lw_at lw_m5 106 rfl) rfl
theorem q1216 : (Jvm.Cond.instanceMethod ({ cls := "ArmsHouse", name := "conflicts", desc := "(II)I" } : Jvm.MethodName)) ∈ lw_all := lw_g (lw_at lw_m5 107 rfl) rfl
theorem q1217 : (Jvm.Cond.selects "ArmsHouse" ({ cls := "ArmsHouse", name := "conflicts", desc := "(II)I" } : Jvm.MethodName) ({ cls := "ArmsHouse", name := "conflicts", desc := "(II)I" } : Jvm.MethodName)) ∈ lw_all := lw_g (lw_at lw_m5 108 rfl) rfl
theorem q1218 : (Jvm.Cond.code ({ cls := "ArmsHouse", name := "conflicts", desc := "(II)I" } : Jvm.MethodName) prog_1_method_81_code (3 : Nat) (Option.some Jvm.ClassFile.FieldType.int)) ∈ lw_all := lw_g (lw_at lw_m5 109 rfl) rfl
theorem q1219 : (Jvm.Cond.methodLink "ArmsHouse" (666 : Nat) ({ cls := "ArmsHouse", name := "conflictsOf", desc := "(LArmsHouse$Arms;II)I" } : Jvm.MethodName)) ∈ lw_all := lw_g (lw_at lw_m5 110 rfl) rfl
theorem q1221 : (Jvm.Cond.instanceMethod ({ cls := "ArmsHouse", name := "conflictsOf", desc := "(LArmsHouse$Arms;II)I" } : Jvm.MethodName)) ∈ lw_all := lw_g (lw_at lw_m5 112 rfl) rfl
theorem q1222 : (Jvm.Cond.code ({ cls := "ArmsHouse", name := "conflictsOf", desc := "(LArmsHouse$Arms;II)I" } : Jvm.MethodName) prog_1_method_80_code (6 : Nat) (Option.some Jvm.ClassFile.FieldType.int)) ∈ lw_all := lw_g (lw_at lw_m5 113 rfl) rfl
theorem q1223 : (Jvm.Cond.methodLink "ArmsHouseLaw" (121 : Nat) ({ cls := "ArmsHouse", name := "conflict", desc := "(III)I" } : Jvm.MethodName)) ∈ lw_all := lw_g (lw_at lw_m5 114 rfl) rfl
theorem q1224 : (Jvm.Cond.instanceMethod ({ cls := "ArmsHouse", name := "conflict", desc := "(III)I" } : Jvm.MethodName)) ∈ lw_all := lw_g (lw_at lw_m5 115 rfl) rfl
theorem q1225 : (Jvm.Cond.selects "ArmsHouse" ({ cls := "ArmsHouse", name := "conflict", desc := "(III)I" } : Jvm.MethodName) ({ cls := "ArmsHouse", name := "conflict", desc := "(III)I" } : Jvm.MethodName)) ∈ lw_all := lw_g (lw_at lw_m5 116 rfl) rfl
theorem q1226 : (Jvm.Cond.code ({ cls := "ArmsHouse", name := "conflict", desc := "(III)I" } : Jvm.MethodName) prog_1_method_82_code (4 : Nat) (Option.some Jvm.ClassFile.FieldType.int)) ∈ lw_all := lw_g (lw_at lw_m5 117 rfl) rfl
theorem q1227 : (Jvm.Cond.methodLink "ArmsHouseLaw" (125 : Nat) ({ cls := "ArmsHouse", name := "clear", desc := "(II)I" } : Jvm.MethodName)) ∈ lw_all := lw_g (lw_at lw_m5 118 rfl) rfl
theorem q1228 : (Jvm.Cond.instanceMethod ({ cls := "ArmsHouse", name := "clear", desc := "(II)I" } : Jvm.MethodName)) ∈ lw_all := lw_g (lw_at lw_m5 119 rfl) rfl
theorem q1229 : (Jvm.Cond.selects "ArmsHouse" ({ cls := "ArmsHouse", name := "clear", desc := "(II)I" } : Jvm.MethodName) ({ cls := "ArmsHouse", name := "clear", desc := "(II)I" } : Jvm.MethodName)) ∈ lw_all := lw_g (lw_at lw_m5 120 rfl) rfl
theorem q1230 : (Jvm.Cond.code ({ cls := "ArmsHouse", name := "clear", desc := "(II)I" } : Jvm.MethodName) prog_1_method_89_code (4 : Nat) (Option.some Jvm.ClassFile.FieldType.int)) ∈ lw_all := lw_g (lw_at lw_m5 121 rfl) rfl
theorem q1231 : (Jvm.Cond.methodLink "ArmsHouse" (677 : Nat) ({ cls := "ArmsHouse", name := "isClear", desc := "(LArmsHouse$Arms;I)Z" } : Jvm.MethodName)) ∈ lw_all := lw_g (lw_at lw_m5 122 rfl) rfl
theorem q1233 : (Jvm.Cond.instanceMethod ({ cls := "ArmsHouse", name := "isClear", desc := "(LArmsHouse$Arms;I)Z" } : Jvm.MethodName)) ∈ lw_all := lw_g (lw_at lw_m5 124 rfl) rfl
theorem q1234 : (Jvm.Cond.code ({ cls := "ArmsHouse", name := "isClear", desc := "(LArmsHouse$Arms;I)Z" } : Jvm.MethodName) prog_1_method_85_code (3 : Nat) (Option.some Jvm.ClassFile.FieldType.boolean)) ∈ lw_all := lw_g (lw_at lw_m5 125 rfl) rfl
theorem q1235 : (Jvm.Cond.methodLink "ArmsHouse" (688 : Nat) ({ cls := "ArmsHouse$Arms", name := "twin", desc := "()LArmsHouse$Arms;" } : Jvm.MethodName)) ∈ lw_all := lw_g (lw_at lw_m5 126 rfl) rfl
theorem q1236 : (Jvm.Cond.instanceMethod ({ cls := "ArmsHouse$Arms", name := "twin", desc := "()LArmsHouse$Arms;" } : Jvm.MethodName)) ∈ lw_all := lw_g (lw_at lw_m5 127 rfl) rfl
theorem q1237 : (Jvm.Cond.selects "ArmsHouse$Arms" ({ cls := "ArmsHouse$Arms", name := "twin", desc := "()LArmsHouse$Arms;" } : Jvm.MethodName) ({ cls := "ArmsHouse$Arms", name := "twin", desc := "()LArmsHouse$Arms;" } : Jvm.MethodName)) ∈ lw_all := lw_g (lw_at lw_m5 128 rfl) rfl
theorem q1238 : (Jvm.Cond.code ({ cls := "ArmsHouse$Arms", name := "twin", desc := "()LArmsHouse$Arms;" } : Jvm.MethodName) prog_2_method_2_code (3 : Nat) (Option.some (Jvm.ClassFile.FieldType.object "ArmsHouse$Arms"))) ∈ lw_all := lw_g (lw_at lw_m5 129 rfl) rfl
theorem q1239 : (Jvm.Cond.classLink "ArmsHouse$Arms" (8 : Nat) "ArmsHouse$Arms") ∈ lw_all := lw_g (lw_at lw_m5 130 rfl) rfl
theorem q1240 : (Jvm.Cond.methodLink "ArmsHouse$Arms" (19 : Nat) ({ cls := "ArmsHouse$Field", name := "twin", desc := "()LArmsHouse$Field;" } : Jvm.MethodName)) ∈ lw_all := lw_g (lw_at lw_m5 131 rfl) rfl
theorem q1241 : (Jvm.Cond.instanceMethod ({ cls := "ArmsHouse$Field", name := "twin", desc := "()LArmsHouse$Field;" } : Jvm.MethodName)) ∈ lw_all := lw_g (lw_at lw_m5 132 rfl) rfl
theorem q1242 : (Jvm.Cond.selects "ArmsHouse$Field" ({ cls := "ArmsHouse$Field", name := "twin", desc := "()LArmsHouse$Field;" } : Jvm.MethodName) ({ cls := "ArmsHouse$Field", name := "twin", desc := "()LArmsHouse$Field;" } : Jvm.MethodName)) ∈ lw_all := lw_g (lw_at lw_m5 133 rfl) rfl
theorem q1243 : (Jvm.Cond.code ({ cls := "ArmsHouse$Field", name := "twin", desc := "()LArmsHouse$Field;" } : Jvm.MethodName) prog_4_method_3_code (1 : Nat) (Option.some (Jvm.ClassFile.FieldType.object "ArmsHouse$Field"))) ∈ lw_all := lw_g (lw_at lw_m5 134 rfl) rfl
theorem q1244 : (Jvm.Cond.classLink "ArmsHouse$Field" (13 : Nat) "ArmsHouse$Field") ∈ lw_all := lw_g (lw_at lw_m5 135 rfl) rfl
theorem q1245 : (Jvm.Cond.methodLink "ArmsHouse$Field" (34 : Nat) ({ cls := "ArmsHouse$Field", name := "<init>", desc := "(IIIII)V" } : Jvm.MethodName)) ∈ lw_all := lw_g (lw_at lw_m5 136 rfl) rfl
theorem q1246 : (Jvm.Cond.methodLink "ArmsHouse$Arms" (25 : Nat) ({ cls := "ArmsHouse$Arms", name := "<init>", desc := "(LArmsHouse$Field;I)V" } : Jvm.MethodName)) ∈ lw_all := lw_g (lw_at lw_m5 137 rfl) rfl
theorem q1247 : (Jvm.Cond.methodLink "ArmsHouse$Arms" (28 : Nat) ({ cls := "ArmsHouse$Layer", name := "twin", desc := "()LArmsHouse$Layer;" } : Jvm.MethodName)) ∈ lw_all := lw_g (lw_at lw_m5 138 rfl) rfl
theorem q1248 : (Jvm.Cond.instanceMethod ({ cls := "ArmsHouse$Layer", name := "twin", desc := "()LArmsHouse$Layer;" } : Jvm.MethodName)) ∈ lw_all := lw_g (lw_at lw_m5 139 rfl) rfl
theorem q1249 : (Jvm.Cond.selects "ArmsHouse$Layer" ({ cls := "ArmsHouse$Layer", name := "twin", desc := "()LArmsHouse$Layer;" } : Jvm.MethodName) ({ cls := "ArmsHouse$Layer", name := "twin", desc := "()LArmsHouse$Layer;" } : Jvm.MethodName)) ∈ lw_all := lw_g (lw_at lw_m5 140 rfl) rfl
theorem q1250 : (Jvm.Cond.code ({ cls := "ArmsHouse$Layer", name := "twin", desc := "()LArmsHouse$Layer;" } : Jvm.MethodName) prog_6_method_2_code (2 : Nat) (Option.some (Jvm.ClassFile.FieldType.object "ArmsHouse$Layer"))) ∈ lw_all := lw_g (lw_at lw_m5 141 rfl) rfl
theorem q1251 : (Jvm.Cond.classLink "ArmsHouse$Layer" (9 : Nat) "ArmsHouse$Layer") ∈ lw_all := lw_g (lw_at lw_m5 142 rfl) rfl
theorem q1252 : (Jvm.Cond.methodLink "ArmsHouse$Layer" (11 : Nat) ({ cls := "ArmsHouse$Layer", name := "<init>", desc := "()V" } : Jvm.MethodName)) ∈ lw_all := lw_g (lw_at lw_m5 143 rfl) rfl
theorem q1253 : (Jvm.Cond.classLink "ArmsHouse$Layer" (20 : Nat) "ArmsHouse$Ordinary") ∈ lw_all := lw_g (lw_at lw_m5 144 rfl) rfl
theorem q1254 : (Jvm.Cond.methodLink "ArmsHouse$Layer" (31 : Nat) ({ cls := "ArmsHouse$Ordinary", name := "<init>", desc := "(III)V" } : Jvm.MethodName)) ∈ lw_all := lw_g (lw_at lw_m5 145 rfl) rfl
theorem q1255 : (Jvm.Cond.classLink "ArmsHouse$Layer" (38 : Nat) "ArmsHouse$Group") ∈ lw_all := lw_g (lw_at lw_m5 146 rfl) rfl
theorem q1256 : (Jvm.Cond.methodLink "ArmsHouse$Layer" (50 : Nat) ({ cls := "ArmsHouse$Group", name := "<init>", desc := "(IIII)V" } : Jvm.MethodName)) ∈ lw_all := lw_g (lw_at lw_m5 147 rfl) rfl
theorem q1257 : (Jvm.Cond.methodLink "ArmsHouse" (692 : Nat) ({ cls := "ArmsHouse", name := "clearsByOne", desc := "(LArmsHouse$Arms;I)Z" } : Jvm.MethodName)) ∈ lw_all := lw_g (lw_at lw_m5 148 rfl) rfl
theorem q1259 : (Jvm.Cond.instanceMethod ({ cls := "ArmsHouse", name := "clearsByOne", desc := "(LArmsHouse$Arms;I)Z" } : Jvm.MethodName)) ∈ lw_all := lw_g (lw_at lw_m5 150 rfl) rfl
theorem q1260 : (Jvm.Cond.code ({ cls := "ArmsHouse", name := "clearsByOne", desc := "(LArmsHouse$Arms;I)Z" } : Jvm.MethodName) prog_1_method_88_code (4 : Nat) (Option.some Jvm.ClassFile.FieldType.boolean)) ∈ lw_all := lw_g (lw_at lw_m5 151 rfl) rfl
theorem q1261 : (Jvm.Cond.methodLink "ArmsHouse" (685 : Nat) ({ cls := "ArmsHouse", name := "tinged", desc := "(LArmsHouse$Arms;)I" } : Jvm.MethodName)) ∈ lw_all := lw_g (lw_at lw_m5 152 rfl) rfl
theorem q1262 : (Jvm.Cond.static ({ cls := "ArmsHouse", name := "tinged", desc := "(LArmsHouse$Arms;)I" } : Jvm.MethodName)) ∈ lw_all := lw_g (lw_at lw_m5 153 rfl) rfl
theorem q1263 : (Jvm.Cond.code ({ cls := "ArmsHouse", name := "tinged", desc := "(LArmsHouse$Arms;)I" } : Jvm.MethodName) prog_1_method_83_code (6 : Nat) (Option.some Jvm.ClassFile.FieldType.int)) ∈ lw_all := lw_g (lw_at lw_m5 154 rfl) rfl
theorem q1264 : (Jvm.Cond.methodLink "ArmsHouse" (681 : Nat) ({ cls := "ArmsHouse", name := "clears", desc := "(LArmsHouse$Arms;III)Z" } : Jvm.MethodName)) ∈ lw_all := lw_g (lw_at lw_m5 155 rfl) rfl
theorem q1266 : (Jvm.Cond.instanceMethod ({ cls := "ArmsHouse", name := "clears", desc := "(LArmsHouse$Arms;III)Z" } : Jvm.MethodName)) ∈ lw_all := lw_g (lw_at lw_m5 157 rfl) rfl
theorem q1267 : (Jvm.Cond.code ({ cls := "ArmsHouse", name := "clears", desc := "(LArmsHouse$Arms;III)Z" } : Jvm.MethodName) prog_1_method_86_code (7 : Nat) (Option.some Jvm.ClassFile.FieldType.boolean)) ∈ lw_all := lw_g (lw_at lw_m5 158 rfl) rfl
theorem q1268 : (Jvm.Cond.methodLink "ArmsHouse" (674 : Nat) ({ cls := "ArmsHouse", name := "tinge", desc := "(LArmsHouse$Arms;II)I" } : Jvm.MethodName)) ∈ lw_all := lw_g (lw_at lw_m5 159 rfl) rfl
theorem q1269 : (Jvm.Cond.static ({ cls := "ArmsHouse", name := "tinge", desc := "(LArmsHouse$Arms;II)I" } : Jvm.MethodName)) ∈ lw_all := lw_g (lw_at lw_m5 160 rfl) rfl
theorem q1270 : (Jvm.Cond.code ({ cls := "ArmsHouse", name := "tinge", desc := "(LArmsHouse$Arms;II)I" } : Jvm.MethodName) prog_1_method_84_code (10 : Nat) (Option.some Jvm.ClassFile.FieldType.int)) ∈ lw_all := lw_g (lw_at lw_m5 161 rfl) rfl
theorem q1271 : (Jvm.Cond.methodLink "ArmsHouse" (695 : Nat) ({ cls := "ArmsHouse", name := "clearsByTwo", desc := "(LArmsHouse$Arms;I)Z" } : Jvm.MethodName)) ∈ lw_all := lw_g (lw_at lw_m5 162 rfl) rfl
theorem q1273 : (Jvm.Cond.instanceMethod ({ cls := "ArmsHouse", name := "clearsByTwo", desc := "(LArmsHouse$Arms;I)Z" } : Jvm.MethodName)) ∈ lw_all := lw_g (lw_at lw_m5 164 rfl) rfl
theorem q1274 : (Jvm.Cond.code ({ cls := "ArmsHouse", name := "clearsByTwo", desc := "(LArmsHouse$Arms;I)Z" } : Jvm.MethodName) prog_1_method_87_code (6 : Nat) (Option.some Jvm.ClassFile.FieldType.boolean)) ∈ lw_all := lw_g (lw_at lw_m5 165 rfl) rfl
theorem q1275 : (Jvm.Cond.methodLink "ArmsHouseLaw" (129 : Nat) ({ cls := "ArmsHouse", name := "clause", desc := "()I" } : Jvm.MethodName)) ∈ lw_all := lw_g (lw_at lw_m5 166 rfl) rfl
theorem q1276 : (Jvm.Cond.instanceMethod ({ cls := "ArmsHouse", name := "clause", desc := "()I" } : Jvm.MethodName)) ∈ lw_all := lw_g (lw_at lw_m5 167 rfl) rfl
theorem q1277 : (Jvm.Cond.selects "ArmsHouse" ({ cls := "ArmsHouse", name := "clause", desc := "()I" } : Jvm.MethodName) ({ cls := "ArmsHouse", name := "clause", desc := "()I" } : Jvm.MethodName)) ∈ lw_all := lw_g (lw_at lw_m5 168 rfl) rfl
theorem q1278 : (Jvm.Cond.code ({ cls := "ArmsHouse", name := "clause", desc := "()I" } : Jvm.MethodName) prog_1_method_99_code (2 : Nat) (Option.some Jvm.ClassFile.FieldType.int)) ∈ lw_all := lw_g (lw_at lw_m5 169 rfl) rfl
theorem q1279 : (Jvm.Cond.methodLink "ArmsHouse" (739 : Nat) ({ cls := "ArmsHouse", name := "either", desc := "(I)LArmsHouse$Node;" } : Jvm.MethodName)) ∈ lw_all := lw_g (lw_at lw_m5 170 rfl) rfl
theorem q1281 : (Jvm.Cond.instanceMethod ({ cls := "ArmsHouse", name := "either", desc := "(I)LArmsHouse$Node;" } : Jvm.MethodName)) ∈ lw_all := lw_g (lw_at lw_m5 172 rfl) rfl
theorem q1282 : (Jvm.Cond.code ({ cls := "ArmsHouse", name := "either", desc := "(I)LArmsHouse$Node;" } : Jvm.MethodName) prog_1_method_93_code (4 : Nat) (Option.some (Jvm.ClassFile.FieldType.object "ArmsHouse$Node"))) ∈ lw_all := lw_g (lw_at lw_m5 173 rfl) rfl
theorem q1283 : (Jvm.Cond.methodLink "ArmsHouse" (707 : Nat) ({ cls := "ArmsHouse", name := "may", desc := "(IZ)Z" } : Jvm.MethodName)) ∈ lw_all := lw_g (lw_at lw_m5 174 rfl) rfl
theorem q1285 : (Jvm.Cond.instanceMethod ({ cls := "ArmsHouse", name := "may", desc := "(IZ)Z" } : Jvm.MethodName)) ∈ lw_all := lw_g (lw_at lw_m5 176 rfl) rfl
theorem q1286 : (Jvm.Cond.code ({ cls := "ArmsHouse", name := "may", desc := "(IZ)Z" } : Jvm.MethodName) prog_1_method_92_code (3 : Nat) (Option.some Jvm.ClassFile.FieldType.boolean)) ∈ lw_all := lw_g (lw_at lw_m5 177 rfl) rfl
theorem q1287 : (Jvm.Cond.methodLink "ArmsHouse" (704 : Nat) ({ cls := "ArmsHouse", name := "begins", desc := "()Z" } : Jvm.MethodName)) ∈ lw_all := lw_g (lw_at lw_m5 178 rfl) rfl
theorem q1289 : (Jvm.Cond.instanceMethod ({ cls := "ArmsHouse", name := "begins", desc := "()Z" } : Jvm.MethodName)) ∈ lw_all := lw_g (lw_at lw_m5 180 rfl) rfl
theorem q1290 : (Jvm.Cond.code ({ cls := "ArmsHouse", name := "begins", desc := "()Z" } : Jvm.MethodName) prog_1_method_91_code (2 : Nat) (Option.some Jvm.ClassFile.FieldType.boolean)) ∈ lw_all := lw_g (lw_at lw_m5 181 rfl) rfl
theorem q1291 : (Jvm.Cond.methodLink "ArmsHouse" (701 : Nat) ({ cls := "ArmsHouse$Text", name := "now", desc := "()I" } : Jvm.MethodName)) ∈ lw_all := lw_g (lw_at lw_m5 182 rfl) rfl
theorem q1292 : (Jvm.Cond.instanceMethod ({ cls := "ArmsHouse$Text", name := "now", desc := "()I" } : Jvm.MethodName)) ∈ lw_all := lw_g (lw_at lw_m5 183 rfl) rfl
theorem q1293 : (Jvm.Cond.selects "ArmsHouse$Text" ({ cls := "ArmsHouse$Text", name := "now", desc := "()I" } : Jvm.MethodName) ({ cls := "ArmsHouse$Text", name := "now", desc := "()I" } : Jvm.MethodName)) ∈ lw_all := lw_g (lw_at lw_m5 184 rfl) rfl
theorem q1294 : (Jvm.Cond.code ({ cls := "ArmsHouse$Text", name := "now", desc := "()I" } : Jvm.MethodName) prog_14_method_7_code (1 : Nat) (Option.some Jvm.ClassFile.FieldType.int)) ∈ lw_all := lw_g (lw_at lw_m5 185 rfl) rfl
theorem q1295 : (Jvm.Cond.methodLink "ArmsHouse" (711 : Nat) ({ cls := "ArmsHouse", name := "both", desc := "(I)LArmsHouse$Node;" } : Jvm.MethodName)) ∈ lw_all := lw_g (lw_at lw_m5 186 rfl) rfl
theorem q1297 : (Jvm.Cond.instanceMethod ({ cls := "ArmsHouse", name := "both", desc := "(I)LArmsHouse$Node;" } : Jvm.MethodName)) ∈ lw_all := lw_g (lw_at lw_m5 188 rfl) rfl
theorem q1298 : (Jvm.Cond.code ({ cls := "ArmsHouse", name := "both", desc := "(I)LArmsHouse$Node;" } : Jvm.MethodName) prog_1_method_94_code (4 : Nat) (Option.some (Jvm.ClassFile.FieldType.object "ArmsHouse$Node"))) ∈ lw_all := lw_g (lw_at lw_m5 189 rfl) rfl
theorem q1299 : (Jvm.Cond.methodLink "ArmsHouse" (722 : Nat) ({ cls := "ArmsHouse", name := "no", desc := "(I)LArmsHouse$Node;" } : Jvm.MethodName)) ∈ lw_all := lw_g (lw_at lw_m5 190 rfl) rfl
theorem q1301 : (Jvm.Cond.instanceMethod ({ cls := "ArmsHouse", name := "no", desc := "(I)LArmsHouse$Node;" } : Jvm.MethodName)) ∈ lw_all := lw_g (lw_at lw_m5 192 rfl) rfl
theorem q1302 : (Jvm.Cond.code ({ cls := "ArmsHouse", name := "no", desc := "(I)LArmsHouse$Node;" } : Jvm.MethodName) prog_1_method_95_code (5 : Nat) (Option.some (Jvm.ClassFile.FieldType.object "ArmsHouse$Node"))) ∈ lw_all := lw_g (lw_at lw_m5 193 rfl) rfl
theorem q1303 : (Jvm.Cond.methodLink "ArmsHouse" (715 : Nat) ({ cls := "ArmsHouse", name := "part", desc := "()V" } : Jvm.MethodName)) ∈ lw_all := lw_g (lw_at lw_m5 194 rfl) rfl
theorem q1305 : (Jvm.Cond.instanceMethod ({ cls := "ArmsHouse", name := "part", desc := "()V" } : Jvm.MethodName)) ∈ lw_all := lw_g (lw_at lw_m5 196 rfl) rfl
theorem q1306 : (Jvm.Cond.code ({ cls := "ArmsHouse", name := "part", desc := "()V" } : Jvm.MethodName) prog_1_method_90_code (1 : Nat) (Option.none : Option Jvm.ClassFile.FieldType)) ∈ lw_all := lw_g (lw_at lw_m5 197 rfl) rfl
theorem q1307 : (Jvm.Cond.classLink "ArmsHouse" (725 : Nat) "ArmsHouse$One") ∈ lw_all := lw_g (lw_at lw_m5 198 rfl) rfl
theorem q1308 : (Jvm.Cond.instantiable "ArmsHouse$One" (6 : Nat)) ∈ lw_all := lw_g (lw_at lw_m5 199 rfl) rfl
theorem q1309 : (Jvm.Cond.methodLink "ArmsHouse" (727 : Nat) ({ cls := "ArmsHouse$One", name := "<init>", desc := "(LArmsHouse;IILArmsHouse$Node;)V" } : Jvm.MethodName)) ∈ lw_all := lw_g (lw_at lw_m5 200 rfl) rfl
theorem q1310 : (Jvm.Cond.instanceMethod ({ cls := "ArmsHouse$One", name := "<init>", desc := "(LArmsHouse;IILArmsHouse$Node;)V" } : Jvm.MethodName)) ∈ lw_all := lw_g (lw_at lw_m5 201 rfl) rfl
theorem q1311 : (Jvm.Cond.code ({ cls := "ArmsHouse$One", name := "<init>", desc := "(LArmsHouse;IILArmsHouse$Node;)V" } : Jvm.MethodName) prog_9_method_1_code (5 : Nat) (Option.none : Option Jvm.ClassFile.FieldType)) ∈ lw_all := lw_g (lw_at lw_m5 202 rfl) rfl
theorem q1312 : (Jvm.Cond.methodLink "ArmsHouse$One" (9 : Nat) ({ cls := "ArmsHouse$Node", name := "<init>", desc := "(LArmsHouse;I)V" } : Jvm.MethodName)) ∈ lw_all := lw_g (lw_at lw_m5 203 rfl) rfl
theorem q1313 : (Jvm.Cond.instanceMethod ({ cls := "ArmsHouse$Node", name := "<init>", desc := "(LArmsHouse;I)V" } : Jvm.MethodName)) ∈ lw_all := lw_g (lw_at lw_m5 204 rfl) rfl
theorem q1314 : (Jvm.Cond.code ({ cls := "ArmsHouse$Node", name := "<init>", desc := "(LArmsHouse;I)V" } : Jvm.MethodName) prog_7_method_1_code (3 : Nat) (Option.none : Option Jvm.ClassFile.FieldType)) ∈ lw_all := lw_g (lw_at lw_m5 205 rfl) rfl
theorem q1315 : (Jvm.Cond.methodLink "ArmsHouse$Node" (7 : Nat) ({ cls := "java/lang/Object", name := "<init>", desc := "()V" } : Jvm.MethodName)) ∈ lw_all := lw_g (lw_at lw_m5 206 rfl) rfl
theorem q1316 : (Jvm.Cond.classLink "ArmsHouse$Node" (13 : Nat) "ArmsHouse$Whole") ∈ lw_all := lw_g (lw_at lw_m5 207 rfl) rfl
theorem q1317 : (Jvm.Cond.methodLinkNest "ArmsHouse$Node" (15 : Nat) ({ cls := "ArmsHouse$Whole", name := "<init>", desc := "()V" } : Jvm.MethodName) "ArmsHouse") ∈ lw_tbl := lw_at lw_m5 208 rfl
theorem q1318 : (Jvm.Cond.fieldLink "ArmsHouse$One" (15 : Nat) "ArmsHouse$One" "sort" "I") ∈ lw_all := lw_g (lw_at lw_m5 209 rfl) rfl
theorem q1319 : (Jvm.Cond.fieldLink "ArmsHouse$One" (19 : Nat) "ArmsHouse$One" "of" "LArmsHouse$Node;") ∈ lw_all := lw_g (lw_at lw_m5 210 rfl) rfl
theorem q1320 : (Jvm.Cond.fieldLink "ArmsHouse$One" (3 : Nat) "ArmsHouse$One" "this$0" "LArmsHouse;") ∈ lw_all := lw_g (lw_at lw_m5 211 rfl) rfl
theorem q1321 : (Jvm.Cond.fieldLink "ArmsHouse$Node" (20 : Nat) "ArmsHouse$Node" "place" "I") ∈ lw_all := lw_g (lw_at lw_m5 212 rfl) rfl
theorem q1322 : (Jvm.Cond.fieldLink "ArmsHouse$Node" (16 : Nat) "ArmsHouse$Node" "mine" "LArmsHouse$Whole;") ∈ lw_all := lw_g (lw_at lw_m5 213 rfl) rfl
theorem q1323 : (Jvm.Cond.fieldLink "ArmsHouse$Node" (1 : Nat) "ArmsHouse$Node" "this$0" "LArmsHouse;") ∈ lw_all := lw_g (lw_at lw_m5 214 rfl) rfl
theorem q1324 : (Jvm.Cond.laysFinal "ArmsHouse$One" "ArmsHouse$One" "sort" "I") ∈ lw_all := lw_g (lw_at lw_m5 215 rfl) rfl
theorem q1326 : (Jvm.Cond.laysFinal "ArmsHouse$One" "ArmsHouse$One" "of" "LArmsHouse$Node;") ∈ lw_all := lw_g (lw_at lw_m5 217 rfl) rfl
theorem q1328 : (Jvm.Cond.laysFinal "ArmsHouse$One" "ArmsHouse$One" "this$0" "LArmsHouse;") ∈ lw_all := lw_g (lw_at lw_m5 219 rfl) rfl
theorem q1330 : (Jvm.Cond.laysFinal "ArmsHouse$One" "ArmsHouse$Node" "place" "I") ∈ lw_all := lw_g (lw_at lw_m5 221 rfl) rfl
theorem q1332 : (Jvm.Cond.laysFinal "ArmsHouse$One" "ArmsHouse$Node" "mine" "LArmsHouse$Whole;") ∈ lw_all := lw_g (lw_at lw_m5 223 rfl) rfl
theorem q1334 : (Jvm.Cond.laysFinal "ArmsHouse$One" "ArmsHouse$Node" "this$0" "LArmsHouse;") ∈ lw_all := lw_g (lw_at lw_m5 225 rfl) rfl
theorem q1337 : (Jvm.Cond.methodLink "ArmsHouse" (730 : Nat) ({ cls := "ArmsHouse", name := "added", desc := "(I)LArmsHouse$Node;" } : Jvm.MethodName)) ∈ lw_all := lw_g (lw_at lw_m5 228 rfl) rfl
theorem q1339 : (Jvm.Cond.instanceMethod ({ cls := "ArmsHouse", name := "added", desc := "(I)LArmsHouse$Node;" } : Jvm.MethodName)) ∈ lw_all := lw_g (lw_at lw_m5 230 rfl) rfl
theorem q1340 : (Jvm.Cond.code ({ cls := "ArmsHouse", name := "added", desc := "(I)LArmsHouse$Node;" } : Jvm.MethodName) prog_1_method_96_code (5 : Nat) (Option.some (Jvm.ClassFile.FieldType.object "ArmsHouse$Node"))) ∈ lw_all := lw_g (lw_at lw_m5 231 rfl) rfl
theorem q1341 : (Jvm.Cond.methodLink "ArmsHouse" (733 : Nat) ({ cls := "ArmsHouse", name := "multiplied", desc := "(I)LArmsHouse$Node;" } : Jvm.MethodName)) ∈ lw_all := lw_g (lw_at lw_m5 232 rfl) rfl
theorem q1343 : (Jvm.Cond.instanceMethod ({ cls := "ArmsHouse", name := "multiplied", desc := "(I)LArmsHouse$Node;" } : Jvm.MethodName)) ∈ lw_all := lw_g (lw_at lw_m5 234 rfl) rfl
theorem q1344 : (Jvm.Cond.code ({ cls := "ArmsHouse", name := "multiplied", desc := "(I)LArmsHouse$Node;" } : Jvm.MethodName) prog_1_method_97_code (5 : Nat) (Option.some (Jvm.ClassFile.FieldType.object "ArmsHouse$Node"))) ∈ lw_all := lw_g (lw_at lw_m5 235 rfl) rfl
theorem q1345 : (Jvm.Cond.methodLink "ArmsHouse" (736 : Nat) ({ cls := "ArmsHouse", name := "unary", desc := "(I)LArmsHouse$Node;" } : Jvm.MethodName)) ∈ lw_all := lw_g (lw_at lw_m5 236 rfl) rfl
theorem q1347 : (Jvm.Cond.instanceMethod ({ cls := "ArmsHouse", name := "unary", desc := "(I)LArmsHouse$Node;" } : Jvm.MethodName)) ∈ lw_all := lw_g (lw_at lw_m5 238 rfl) rfl
theorem q1348 : (Jvm.Cond.code ({ cls := "ArmsHouse", name := "unary", desc := "(I)LArmsHouse$Node;" } : Jvm.MethodName) prog_1_method_98_code (6 : Nat) (Option.some (Jvm.ClassFile.FieldType.object "ArmsHouse$Node"))) ∈ lw_all := lw_g (lw_at lw_m5 239 rfl) rfl
theorem q1349 : (Jvm.Cond.classLink "ArmsHouse" (742 : Nat) "ArmsHouse$Number") ∈ lw_all := lw_g (lw_at lw_m6 0 rfl) rfl
theorem q1350 : (Jvm.Cond.instantiable "ArmsHouse$Number" (5 : Nat)) ∈ lw_all := lw_g (lw_at lw_m6 1 rfl) rfl
theorem q1351 : (Jvm.Cond.methodLink "ArmsHouse" (744 : Nat) ({ cls := "ArmsHouse$Number", name := "<init>", desc := "(LArmsHouse;IJ)V" } : Jvm.MethodName)) ∈ lw_all := lw_g (lw_at lw_m6 2 rfl) rfl
theorem q1352 : (Jvm.Cond.instanceMethod ({ cls := "ArmsHouse$Number", name := "<init>", desc := "(LArmsHouse;IJ)V" } : Jvm.MethodName)) ∈ lw_all := lw_g (lw_at lw_m6 3 rfl) rfl
theorem q1353 : (Jvm.Cond.code ({ cls := "ArmsHouse$Number", name := "<init>", desc := "(LArmsHouse;IJ)V" } : Jvm.MethodName) prog_8_method_1_code (5 : Nat) (Option.none : Option Jvm.ClassFile.FieldType)) ∈ lw_all := lw_g (lw_at lw_m6 4 rfl) rfl
theorem q1354 : (Jvm.Cond.methodLink "ArmsHouse$Number" (7 : Nat) ({ cls := "ArmsHouse$Node", name := "<init>", desc := "(LArmsHouse;I)V" } : Jvm.MethodName)) ∈ lw_all := lw_g (lw_at lw_m6 5 rfl) rfl
theorem q1355 : (Jvm.Cond.fieldLink "ArmsHouse$Number" (13 : Nat) "ArmsHouse$Number" "value" "J") ∈ lw_all := lw_g (lw_at lw_m6 6 rfl) rfl
theorem q1356 : (Jvm.Cond.fieldLink "ArmsHouse$Number" (1 : Nat) "ArmsHouse$Number" "this$0" "LArmsHouse;") ∈ lw_all := lw_g (lw_at lw_m6 7 rfl) rfl
theorem q1357 : (Jvm.Cond.laysFinal "ArmsHouse$Number" "ArmsHouse$Number" "value" "J") ∈ lw_all := lw_g (lw_at lw_m6 8 rfl) rfl
theorem q1359 : (Jvm.Cond.laysFinal "ArmsHouse$Number" "ArmsHouse$Number" "this$0" "LArmsHouse;") ∈ lw_all := lw_g (lw_at lw_m6 10 rfl) rfl
theorem q1361 : (Jvm.Cond.laysFinal "ArmsHouse$Number" "ArmsHouse$Node" "place" "I") ∈ lw_all := lw_g (lw_at lw_m6 12 rfl) rfl
theorem q1362 : (Jvm.Cond.laysFinal "ArmsHouse$Number" "ArmsHouse$Node" "mine" "LArmsHouse$Whole;") ∈ lw_all := lw_g (lw_at lw_m6 13 rfl) rfl
theorem q1363 : (Jvm.Cond.laysFinal "ArmsHouse$Number" "ArmsHouse$Node" "this$0" "LArmsHouse;") ∈ lw_all := lw_g (lw_at lw_m6 14 rfl) rfl
theorem q1365 : (Jvm.Cond.classLink "ArmsHouse" (747 : Nat) "ArmsHouse$Plain") ∈ lw_all := lw_g (lw_at lw_m6 16 rfl) rfl
theorem q1366 : (Jvm.Cond.instantiable "ArmsHouse$Plain" (5 : Nat)) ∈ lw_all := lw_g (lw_at lw_m6 17 rfl) rfl
theorem q1367 : (Jvm.Cond.methodLink "ArmsHouse" (749 : Nat) ({ cls := "ArmsHouse$Plain", name := "<init>", desc := "(LArmsHouse;II)V" } : Jvm.MethodName)) ∈ lw_all := lw_g (lw_at lw_m6 18 rfl) rfl
theorem q1368 : (Jvm.Cond.instanceMethod ({ cls := "ArmsHouse$Plain", name := "<init>", desc := "(LArmsHouse;II)V" } : Jvm.MethodName)) ∈ lw_all := lw_g (lw_at lw_m6 19 rfl) rfl
theorem q1369 : (Jvm.Cond.code ({ cls := "ArmsHouse$Plain", name := "<init>", desc := "(LArmsHouse;II)V" } : Jvm.MethodName) prog_13_method_1_code (4 : Nat) (Option.none : Option Jvm.ClassFile.FieldType)) ∈ lw_all := lw_g (lw_at lw_m6 20 rfl) rfl
theorem q1370 : (Jvm.Cond.methodLink "ArmsHouse$Plain" (9 : Nat) ({ cls := "ArmsHouse$Node", name := "<init>", desc := "(LArmsHouse;I)V" } : Jvm.MethodName)) ∈ lw_all := lw_g (lw_at lw_m6 21 rfl) rfl
theorem q1371 : (Jvm.Cond.fieldLink "ArmsHouse$Plain" (15 : Nat) "ArmsHouse$Plain" "sort" "I") ∈ lw_all := lw_g (lw_at lw_m6 22 rfl) rfl
theorem q1372 : (Jvm.Cond.fieldLink "ArmsHouse$Plain" (3 : Nat) "ArmsHouse$Plain" "this$0" "LArmsHouse;") ∈ lw_all := lw_g (lw_at lw_m6 23 rfl) rfl
theorem q1373 : (Jvm.Cond.laysFinal "ArmsHouse$Plain" "ArmsHouse$Plain" "sort" "I") ∈ lw_all := lw_g (lw_at lw_m6 24 rfl) rfl
theorem q1375 : (Jvm.Cond.laysFinal "ArmsHouse$Plain" "ArmsHouse$Plain" "this$0" "LArmsHouse;") ∈ lw_all := lw_g (lw_at lw_m6 26 rfl) rfl
theorem q1377 : (Jvm.Cond.laysFinal "ArmsHouse$Plain" "ArmsHouse$Node" "place" "I") ∈ lw_all := lw_g (lw_at lw_m6 28 rfl) rfl
theorem q1378 : (Jvm.Cond.laysFinal "ArmsHouse$Plain" "ArmsHouse$Node" "mine" "LArmsHouse$Whole;") ∈ lw_all := lw_g (lw_at lw_m6 29 rfl) rfl
theorem q1379 : (Jvm.Cond.laysFinal "ArmsHouse$Plain" "ArmsHouse$Node" "this$0" "LArmsHouse;") ∈ lw_all := lw_g (lw_at lw_m6 30 rfl) rfl
theorem q1381 : (Jvm.Cond.classLink "ArmsHouse" (752 : Nat) "ArmsHouse$Try") ∈ lw_all := lw_g (lw_at lw_m6 32 rfl) rfl
theorem q1382 : (Jvm.Cond.instantiable "ArmsHouse$Try" (6 : Nat)) ∈ lw_all := lw_g (lw_at lw_m6 33 rfl) rfl
theorem q1383 : (Jvm.Cond.methodLink "ArmsHouse" (754 : Nat) ({ cls := "ArmsHouse$Try", name := "<init>", desc := "(LArmsHouse;ILArmsHouse$Node;LArmsHouse$Node;)V" } : Jvm.MethodName)) ∈ lw_all := lw_g (lw_at lw_m6 34 rfl) rfl
theorem q1384 : (Jvm.Cond.instanceMethod ({ cls := "ArmsHouse$Try", name := "<init>", desc := "(LArmsHouse;ILArmsHouse$Node;LArmsHouse$Node;)V" } : Jvm.MethodName)) ∈ lw_all := lw_g (lw_at lw_m6 35 rfl) rfl
theorem q1385 : (Jvm.Cond.code ({ cls := "ArmsHouse$Try", name := "<init>", desc := "(LArmsHouse;ILArmsHouse$Node;LArmsHouse$Node;)V" } : Jvm.MethodName) prog_16_method_1_code (5 : Nat) (Option.none : Option Jvm.ClassFile.FieldType)) ∈ lw_all := lw_g (lw_at lw_m6 36 rfl) rfl
theorem q1386 : (Jvm.Cond.methodLink "ArmsHouse$Try" (7 : Nat) ({ cls := "ArmsHouse$Node", name := "<init>", desc := "(LArmsHouse;I)V" } : Jvm.MethodName)) ∈ lw_all := lw_g (lw_at lw_m6 37 rfl) rfl
theorem q1387 : (Jvm.Cond.fieldLink "ArmsHouse$Try" (13 : Nat) "ArmsHouse$Try" "of" "LArmsHouse$Node;") ∈ lw_all := lw_g (lw_at lw_m6 38 rfl) rfl
theorem q1388 : (Jvm.Cond.fieldLink "ArmsHouse$Try" (17 : Nat) "ArmsHouse$Try" "other" "LArmsHouse$Node;") ∈ lw_all := lw_g (lw_at lw_m6 39 rfl) rfl
theorem q1389 : (Jvm.Cond.fieldLink "ArmsHouse$Try" (1 : Nat) "ArmsHouse$Try" "this$0" "LArmsHouse;") ∈ lw_all := lw_g (lw_at lw_m6 40 rfl) rfl
theorem q1390 : (Jvm.Cond.laysFinal "ArmsHouse$Try" "ArmsHouse$Try" "of" "LArmsHouse$Node;") ∈ lw_all := lw_g (lw_at lw_m6 41 rfl) rfl
theorem q1392 : (Jvm.Cond.laysFinal "ArmsHouse$Try" "ArmsHouse$Try" "other" "LArmsHouse$Node;") ∈ lw_all := lw_g (lw_at lw_m6 43 rfl) rfl
theorem q1394 : (Jvm.Cond.laysFinal "ArmsHouse$Try" "ArmsHouse$Try" "this$0" "LArmsHouse;") ∈ lw_all := lw_g (lw_at lw_m6 45 rfl) rfl
theorem q1396 : (Jvm.Cond.laysFinal "ArmsHouse$Try" "ArmsHouse$Node" "place" "I") ∈ lw_all := lw_g (lw_at lw_m6 47 rfl) rfl
theorem q1397 : (Jvm.Cond.laysFinal "ArmsHouse$Try" "ArmsHouse$Node" "mine" "LArmsHouse$Whole;") ∈ lw_all := lw_g (lw_at lw_m6 48 rfl) rfl
theorem q1398 : (Jvm.Cond.laysFinal "ArmsHouse$Try" "ArmsHouse$Node" "this$0" "LArmsHouse;") ∈ lw_all := lw_g (lw_at lw_m6 49 rfl) rfl
theorem q1400 : (Jvm.Cond.classLink "ArmsHouse" (717 : Nat) "ArmsHouse$Two") ∈ lw_all := lw_g (lw_at lw_m6 51 rfl) rfl
theorem q1401 : (Jvm.Cond.instantiable "ArmsHouse$Two" (7 : Nat)) ∈ lw_all := lw_g (lw_at lw_m6 52 rfl) rfl
theorem q1402 : (Jvm.Cond.methodLink "ArmsHouse" (719 : Nat) ({ cls := "ArmsHouse$Two", name := "<init>", desc := "(LArmsHouse;IILArmsHouse$Node;LArmsHouse$Node;)V" } : Jvm.MethodName)) ∈ lw_all := lw_g (lw_at lw_m6 53 rfl) rfl
theorem q1403 : (Jvm.Cond.instanceMethod ({ cls := "ArmsHouse$Two", name := "<init>", desc := "(LArmsHouse;IILArmsHouse$Node;LArmsHouse$Node;)V" } : Jvm.MethodName)) ∈ lw_all := lw_g (lw_at lw_m6 54 rfl) rfl
theorem q1404 : (Jvm.Cond.code ({ cls := "ArmsHouse$Two", name := "<init>", desc := "(LArmsHouse;IILArmsHouse$Node;LArmsHouse$Node;)V" } : Jvm.MethodName) prog_17_method_1_code (6 : Nat) (Option.none : Option Jvm.ClassFile.FieldType)) ∈ lw_all := lw_g (lw_at lw_m6 55 rfl) rfl
theorem q1405 : (Jvm.Cond.methodLink "ArmsHouse$Two" (9 : Nat) ({ cls := "ArmsHouse$Node", name := "<init>", desc := "(LArmsHouse;I)V" } : Jvm.MethodName)) ∈ lw_all := lw_g (lw_at lw_m6 56 rfl) rfl
theorem q1406 : (Jvm.Cond.fieldLink "ArmsHouse$Two" (15 : Nat) "ArmsHouse$Two" "sort" "I") ∈ lw_all := lw_g (lw_at lw_m6 57 rfl) rfl
theorem q1407 : (Jvm.Cond.fieldLink "ArmsHouse$Two" (19 : Nat) "ArmsHouse$Two" "left" "LArmsHouse$Node;") ∈ lw_all := lw_g (lw_at lw_m6 58 rfl) rfl
theorem q1408 : (Jvm.Cond.fieldLink "ArmsHouse$Two" (23 : Nat) "ArmsHouse$Two" "right" "LArmsHouse$Node;") ∈ lw_all := lw_g (lw_at lw_m6 59 rfl) rfl
theorem q1409 : (Jvm.Cond.fieldLink "ArmsHouse$Two" (3 : Nat) "ArmsHouse$Two" "this$0" "LArmsHouse;") ∈ lw_all := lw_g (lw_at lw_m6 60 rfl) rfl
theorem q1410 : (Jvm.Cond.laysFinal "ArmsHouse$Two" "ArmsHouse$Two" "sort" "I") ∈ lw_all := lw_g (lw_at lw_m6 61 rfl) rfl
theorem q1412 : (Jvm.Cond.laysFinal "ArmsHouse$Two" "ArmsHouse$Two" "left" "LArmsHouse$Node;") ∈ lw_all := lw_g (lw_at lw_m6 63 rfl) rfl
theorem q1414 : (Jvm.Cond.laysFinal "ArmsHouse$Two" "ArmsHouse$Two" "right" "LArmsHouse$Node;") ∈ lw_all := lw_g (lw_at lw_m6 65 rfl) rfl
theorem q1416 : (Jvm.Cond.laysFinal "ArmsHouse$Two" "ArmsHouse$Two" "this$0" "LArmsHouse;") ∈ lw_all := lw_g (lw_at lw_m6 67 rfl) rfl
theorem q1418 : (Jvm.Cond.laysFinal "ArmsHouse$Two" "ArmsHouse$Node" "place" "I") ∈ lw_all := lw_g (lw_at lw_m6 69 rfl) rfl
theorem q1419 : (Jvm.Cond.laysFinal "ArmsHouse$Two" "ArmsHouse$Node" "mine" "LArmsHouse$Whole;") ∈ lw_all := lw_g (lw_at lw_m6 70 rfl) rfl
theorem q1420 : (Jvm.Cond.laysFinal "ArmsHouse$Two" "ArmsHouse$Node" "this$0" "LArmsHouse;") ∈ lw_all := lw_g (lw_at lw_m6 71 rfl) rfl
theorem q1422 : (Jvm.Cond.methodLink "ArmsHouseLaw" (133 : Nat) ({ cls := "ArmsHouse", name := "ask", desc := "(II)I" } : Jvm.MethodName)) ∈ lw_all := lw_g (lw_at lw_m6 73 rfl) rfl
theorem q1423 : (Jvm.Cond.instanceMethod ({ cls := "ArmsHouse", name := "ask", desc := "(II)I" } : Jvm.MethodName)) ∈ lw_all := lw_g (lw_at lw_m6 74 rfl) rfl
theorem q1424 : (Jvm.Cond.selects "ArmsHouse" ({ cls := "ArmsHouse", name := "ask", desc := "(II)I" } : Jvm.MethodName) ({ cls := "ArmsHouse", name := "ask", desc := "(II)I" } : Jvm.MethodName)) ∈ lw_all := lw_g (lw_at lw_m6 75 rfl) rfl
theorem q1425 : (Jvm.Cond.code ({ cls := "ArmsHouse", name := "ask", desc := "(II)I" } : Jvm.MethodName) prog_1_method_103_code (4 : Nat) (Option.some Jvm.ClassFile.FieldType.int)) ∈ lw_all := lw_g (lw_at lw_m6 76 rfl) rfl
theorem q1426 : (Jvm.Cond.methodLink "ArmsHouse" (784 : Nat) ({ cls := "ArmsHouse", name := "asked", desc := "(ILArmsHouse$Arms;)I" } : Jvm.MethodName)) ∈ lw_all := lw_g (lw_at lw_m6 77 rfl) rfl
theorem q1428 : (Jvm.Cond.instanceMethod ({ cls := "ArmsHouse", name := "asked", desc := "(ILArmsHouse$Arms;)I" } : Jvm.MethodName)) ∈ lw_all := lw_g (lw_at lw_m6 79 rfl) rfl
theorem q1429 : (Jvm.Cond.codeWith ({ cls := "ArmsHouse", name := "asked", desc := "(ILArmsHouse$Arms;)I" } : Jvm.MethodName) prog_1_method_100_code (4 : Nat) (Option.some Jvm.ClassFile.FieldType.int) [((0 : Nat), (16 : Nat), (17 : Nat), (484 : Nat)), ((0 : Nat), (16 : Nat), (23 : Nat), (771 : Nat))]) ∈ lw_all := lw_g (lw_at lw_m6 80 rfl) rfl
theorem q1430 : (Jvm.Cond.classLink "ArmsHouse" (771 : Nat) "java/lang/ClassCastException") ∈ lw_all := lw_g (lw_at lw_m6 81 rfl) rfl
theorem q1431 : (Jvm.Cond.instantiable "java/lang/ClassCastException" (6 : Nat)) ∈ lw_all := lw_g (lw_at lw_m6 82 rfl) rfl
theorem q1432 : (Jvm.Cond.instanceMethod ({ cls := "java/lang/ClassCastException", name := "<init>", desc := "(Ljava/lang/String;)V" } : Jvm.MethodName)) ∈ lw_all := lw_g (lw_at lw_m6 83 rfl) rfl
theorem q1433 : (Jvm.Cond.code ({ cls := "java/lang/ClassCastException", name := "<init>", desc := "(Ljava/lang/String;)V" } : Jvm.MethodName) prog_23_method_2_code (2 : Nat) (Option.none : Option Jvm.ClassFile.FieldType)) ∈ lw_all := lw_g (lw_at lw_m6 84 rfl) rfl
theorem q1434 : (Jvm.Cond.methodLink "java/lang/ClassCastException" (7 : Nat) ({ cls := "java/lang/RuntimeException", name := "<init>", desc := "(Ljava/lang/String;)V" } : Jvm.MethodName)) ∈ lw_all := lw_g (lw_at lw_m6 85 rfl) rfl
theorem q1435 : (Jvm.Cond.lays "java/lang/ClassCastException" "java/lang/Throwable" "backtrace" "Ljava/lang/Object;") ∈ lw_all := lw_g (lw_at lw_m6 86 rfl) rfl
theorem q1436 : (Jvm.Cond.lays "java/lang/ClassCastException" "java/lang/Throwable" "detailMessage" "Ljava/lang/String;") ∈ lw_all := lw_g (lw_at lw_m6 87 rfl) rfl
theorem q1437 : (Jvm.Cond.lays "java/lang/ClassCastException" "java/lang/Throwable" "cause" "Ljava/lang/Throwable;") ∈ lw_all := lw_g (lw_at lw_m6 88 rfl) rfl
theorem q1438 : (Jvm.Cond.lays "java/lang/ClassCastException" "java/lang/Throwable" "stackTrace" "[Ljava/lang/StackTraceElement;") ∈ lw_all := lw_g (lw_at lw_m6 89 rfl) rfl
theorem q1439 : (Jvm.Cond.lays "java/lang/ClassCastException" "java/lang/Throwable" "depth" "I") ∈ lw_all := lw_g (lw_at lw_m6 90 rfl) rfl
theorem q1440 : (Jvm.Cond.lays "java/lang/ClassCastException" "java/lang/Throwable" "suppressedExceptions" "Ljava/util/List;") ∈ lw_all := lw_g (lw_at lw_m6 91 rfl) rfl
theorem q1442 : (Jvm.Cond.castable "java/lang/ClassCastException" "java/lang/ClassCastException") ∈ lw_tbl := lw_at lw_m6 93 rfl
theorem q1443 : (Jvm.Cond.selects "java/lang/ClassCastException" ({ cls := "java/lang/Throwable", name := "fillInStackTrace", desc := "(I)Ljava/lang/Throwable;" } : Jvm.MethodName) ({ cls := "java/lang/Throwable", name := "fillInStackTrace", desc := "(I)Ljava/lang/Throwable;" } : Jvm.MethodName)) ∈ lw_all := lw_g (lw_at lw_m6 94 rfl) rfl
theorem q1444 : (Jvm.Cond.methodLink "ArmsHouse" (760 : Nat) ({ cls := "ArmsHouse", name := "wholeOf", desc := "(LArmsHouse$Node;LArmsHouse$Arms;)J" } : Jvm.MethodName)) ∈ lw_all := lw_g (lw_at lw_m6 95 rfl) rfl
theorem q1446 : (Jvm.Cond.instanceMethod ({ cls := "ArmsHouse", name := "wholeOf", desc := "(LArmsHouse$Node;LArmsHouse$Arms;)J" } : Jvm.MethodName)) ∈ lw_all := lw_g (lw_at lw_m6 97 rfl) rfl
theorem q1447 : (Jvm.Cond.codeWith ({ cls := "ArmsHouse", name := "wholeOf", desc := "(LArmsHouse$Node;LArmsHouse$Arms;)J" } : Jvm.MethodName) prog_1_method_101_code (6 : Nat) (Option.some Jvm.ClassFile.FieldType.long) [((0 : Nat), (20 : Nat), (32 : Nat), (0 : Nat)), ((32 : Nat), (34 : Nat), (32 : Nat), (0 : Nat))]) ∈ lw_all := lw_g (lw_at lw_m6 98 rfl) rfl
theorem q1448 : (Jvm.Cond.methodLink "ArmsHouse" (776 : Nat) ({ cls := "ArmsHouse$Node", name := "tell", desc := "(LArmsHouse$Arms;)Ljava/lang/Object;" } : Jvm.MethodName)) ∈ lw_all := lw_g (lw_at lw_m6 99 rfl) rfl
theorem q1449 : (Jvm.Cond.instanceMethod ({ cls := "ArmsHouse$Node", name := "tell", desc := "(LArmsHouse$Arms;)Ljava/lang/Object;" } : Jvm.MethodName)) ∈ lw_all := lw_g (lw_at lw_m6 100 rfl) rfl
theorem q1450 : (Jvm.Cond.sameMethod "ArmsHouse$Node" "ArmsHouse$Node" "tell" "(LArmsHouse$Arms;)Ljava/lang/Object;") ∈ lw_all := lw_g (lw_at lw_m6 101 rfl) rfl
theorem q1451 : (Jvm.Cond.selects "ArmsHouse$Number" ({ cls := "ArmsHouse$Node", name := "tell", desc := "(LArmsHouse$Arms;)Ljava/lang/Object;" } : Jvm.MethodName) ({ cls := "ArmsHouse$Node", name := "tell", desc := "(LArmsHouse$Arms;)Ljava/lang/Object;" } : Jvm.MethodName)) ∈ lw_all := lw_g (lw_at lw_m6 102 rfl) rfl
theorem q1452 : (Jvm.Cond.selects "ArmsHouse$One" ({ cls := "ArmsHouse$Node", name := "tell", desc := "(LArmsHouse$Arms;)Ljava/lang/Object;" } : Jvm.MethodName) ({ cls := "ArmsHouse$Node", name := "tell", desc := "(LArmsHouse$Arms;)Ljava/lang/Object;" } : Jvm.MethodName)) ∈ lw_all := lw_g (lw_at lw_m6 103 rfl) rfl
theorem q1453 : (Jvm.Cond.selects "ArmsHouse$Plain" ({ cls := "ArmsHouse$Node", name := "tell", desc := "(LArmsHouse$Arms;)Ljava/lang/Object;" } : Jvm.MethodName) ({ cls := "ArmsHouse$Node", name := "tell", desc := "(LArmsHouse$Arms;)Ljava/lang/Object;" } : Jvm.MethodName)) ∈ lw_all := lw_g (lw_at lw_m6 104 rfl) rfl
theorem q1454 : (Jvm.Cond.selects "ArmsHouse$Try" ({ cls := "ArmsHouse$Node", name := "tell", desc := "(LArmsHouse$Arms;)Ljava/lang/Object;" } : Jvm.MethodName) ({ cls := "ArmsHouse$Node", name := "tell", desc := "(LArmsHouse$Arms;)Ljava/lang/Object;" } : Jvm.MethodName)) ∈ lw_all := lw_g (lw_at lw_m6 105 rfl) rfl
theorem q1455 : (Jvm.Cond.selects "ArmsHouse$Two" ({ cls := "ArmsHouse$Node", name := "tell", desc := "(LArmsHouse$Arms;)Ljava/lang/Object;" } : Jvm.MethodName) ({ cls := "ArmsHouse$Node", name := "tell", desc := "(LArmsHouse$Arms;)Ljava/lang/Object;" } : Jvm.MethodName)) ∈ lw_all := lw_g (lw_at lw_m6 106 rfl) rfl
theorem q1456 : (Jvm.Cond.codeWith ({ cls := "ArmsHouse$Node", name := "tell", desc := "(LArmsHouse$Arms;)Ljava/lang/Object;" } : Jvm.MethodName) prog_7_method_3_code (4 : Nat) (Option.some (Jvm.ClassFile.FieldType.object "java/lang/Object")) [((0 : Nat), (5 : Nat), (6 : Nat), (28 : Nat)), ((0 : Nat), (5 : Nat), (12 : Nat), (30 : Nat)), ((0 : Nat), (5 : Nat), (18 : Nat), (32 : Nat)), ((0 : Nat), (5 : Nat), (24 : Nat), (34 : Nat))]) ∈ lw_all := lw_g (lw_at lw_m6 107 rfl) rfl
theorem q1457 : (Jvm.Cond.classLink "ArmsHouse$Node" (28 : Nat) "java/lang/NullPointerException") ∈ lw_all := lw_g (lw_at lw_m6 108 rfl) rfl
theorem q1458 : (Jvm.Cond.classLink "ArmsHouse$Node" (30 : Nat) "java/lang/ClassCastException") ∈ lw_all := lw_g (lw_at lw_m6 109 rfl) rfl
theorem q1459 : (Jvm.Cond.classLink "ArmsHouse$Node" (32 : Nat) "java/lang/ArrayIndexOutOfBoundsException") ∈ lw_all := lw_g (lw_at lw_m6 110 rfl) rfl
theorem q1460 : (Jvm.Cond.classLink "ArmsHouse$Node" (34 : Nat) "java/lang/ArithmeticException") ∈ lw_all := lw_g (lw_at lw_m6 111 rfl) rfl
theorem q1461 : (Jvm.Cond.instantiable "java/lang/ArithmeticException" (6 : Nat)) ∈ lw_all := lw_g (lw_at lw_m6 112 rfl) rfl
theorem q1462 : (Jvm.Cond.instanceMethod ({ cls := "java/lang/ArithmeticException", name := "<init>", desc := "(Ljava/lang/String;)V" } : Jvm.MethodName)) ∈ lw_all := lw_g (lw_at lw_m6 113 rfl) rfl
theorem q1463 : (Jvm.Cond.code ({ cls := "java/lang/ArithmeticException", name := "<init>", desc := "(Ljava/lang/String;)V" } : Jvm.MethodName) prog_21_method_2_code (2 : Nat) (Option.none : Option Jvm.ClassFile.FieldType)) ∈ lw_all := lw_g (lw_at lw_m6 114 rfl) rfl
theorem q1464 : (Jvm.Cond.methodLink "java/lang/ArithmeticException" (7 : Nat) ({ cls := "java/lang/RuntimeException", name := "<init>", desc := "(Ljava/lang/String;)V" } : Jvm.MethodName)) ∈ lw_all := lw_g (lw_at lw_m6 115 rfl) rfl
theorem q1465 : (Jvm.Cond.lays "java/lang/ArithmeticException" "java/lang/Throwable" "backtrace" "Ljava/lang/Object;") ∈ lw_all := lw_g (lw_at lw_m6 116 rfl) rfl
theorem q1466 : (Jvm.Cond.lays "java/lang/ArithmeticException" "java/lang/Throwable" "detailMessage" "Ljava/lang/String;") ∈ lw_all := lw_g (lw_at lw_m6 117 rfl) rfl
theorem q1467 : (Jvm.Cond.lays "java/lang/ArithmeticException" "java/lang/Throwable" "cause" "Ljava/lang/Throwable;") ∈ lw_all := lw_g (lw_at lw_m6 118 rfl) rfl
theorem q1468 : (Jvm.Cond.lays "java/lang/ArithmeticException" "java/lang/Throwable" "stackTrace" "[Ljava/lang/StackTraceElement;") ∈ lw_all := lw_g (lw_at lw_m6 119 rfl) rfl
theorem q1469 : (Jvm.Cond.lays "java/lang/ArithmeticException" "java/lang/Throwable" "depth" "I") ∈ lw_all := lw_g (lw_at lw_m6 120 rfl) rfl
theorem q1470 : (Jvm.Cond.lays "java/lang/ArithmeticException" "java/lang/Throwable" "suppressedExceptions" "Ljava/util/List;") ∈ lw_all := lw_g (lw_at lw_m6 121 rfl) rfl
theorem q1472 : (Jvm.Cond.castable "java/lang/ArithmeticException" "java/lang/ArithmeticException") ∈ lw_tbl := lw_at lw_m6 123 rfl
theorem q1473 : (Jvm.Cond.selects "java/lang/ArithmeticException" ({ cls := "java/lang/Throwable", name := "fillInStackTrace", desc := "(I)Ljava/lang/Throwable;" } : Jvm.MethodName) ({ cls := "java/lang/Throwable", name := "fillInStackTrace", desc := "(I)Ljava/lang/Throwable;" } : Jvm.MethodName)) ∈ lw_all := lw_g (lw_at lw_m6 124 rfl) rfl
theorem q1474 : (Jvm.Cond.methodLink "ArmsHouse$Node" (24 : Nat) ({ cls := "ArmsHouse$Node", name := "work", desc := "(LArmsHouse$Arms;)Ljava/lang/Object;" } : Jvm.MethodName)) ∈ lw_all := lw_g (lw_at lw_m6 125 rfl) rfl
theorem q1475 : (Jvm.Cond.declares ({ cls := "ArmsHouse$Node", name := "work", desc := "(LArmsHouse$Arms;)Ljava/lang/Object;" } : Jvm.MethodName)) ∈ lw_tbl := lw_at lw_m6 126 rfl
theorem q1476 : (Jvm.Cond.sameMethod "ArmsHouse$Node" "ArmsHouse$Node" "work" "(LArmsHouse$Arms;)Ljava/lang/Object;") ∈ lw_all := lw_g (lw_at lw_m6 127 rfl) rfl
theorem q1477 : (Jvm.Cond.selects "ArmsHouse$Number" ({ cls := "ArmsHouse$Node", name := "work", desc := "(LArmsHouse$Arms;)Ljava/lang/Object;" } : Jvm.MethodName) ({ cls := "ArmsHouse$Number", name := "work", desc := "(LArmsHouse$Arms;)Ljava/lang/Object;" } : Jvm.MethodName)) ∈ lw_all := lw_g (lw_at lw_m6 128 rfl) rfl
theorem q1478 : (Jvm.Cond.instanceMethod ({ cls := "ArmsHouse$Number", name := "work", desc := "(LArmsHouse$Arms;)Ljava/lang/Object;" } : Jvm.MethodName)) ∈ lw_all := lw_g (lw_at lw_m6 129 rfl) rfl
theorem q1479 : (Jvm.Cond.code ({ cls := "ArmsHouse$Number", name := "work", desc := "(LArmsHouse$Arms;)Ljava/lang/Object;" } : Jvm.MethodName) prog_8_method_2_code (2 : Nat) (Option.some (Jvm.ClassFile.FieldType.object "java/lang/Object"))) ∈ lw_all := lw_g (lw_at lw_m6 130 rfl) rfl
theorem q1480 : (Jvm.Cond.methodLink "ArmsHouse$Number" (17 : Nat) ({ cls := "ArmsHouse$Number", name := "gives", desc := "(J)LArmsHouse$Whole;" } : Jvm.MethodName)) ∈ lw_all := lw_g (lw_at lw_m6 131 rfl) rfl
theorem q1481 : (Jvm.Cond.sameMethod "ArmsHouse$Number" "ArmsHouse$Node" "gives" "(J)LArmsHouse$Whole;") ∈ lw_all := lw_g (lw_at lw_m6 132 rfl) rfl
theorem q1482 : (Jvm.Cond.declares ({ cls := "ArmsHouse$Node", name := "gives", desc := "(J)LArmsHouse$Whole;" } : Jvm.MethodName)) ∈ lw_tbl := lw_at lw_m6 133 rfl
theorem q1483 : (Jvm.Cond.selects "ArmsHouse$Number" ({ cls := "ArmsHouse$Number", name := "gives", desc := "(J)LArmsHouse$Whole;" } : Jvm.MethodName) ({ cls := "ArmsHouse$Node", name := "gives", desc := "(J)LArmsHouse$Whole;" } : Jvm.MethodName)) ∈ lw_all := lw_g (lw_at lw_m6 134 rfl) rfl
theorem q1484 : (Jvm.Cond.instanceMethod ({ cls := "ArmsHouse$Node", name := "gives", desc := "(J)LArmsHouse$Whole;" } : Jvm.MethodName)) ∈ lw_all := lw_g (lw_at lw_m6 135 rfl) rfl
theorem q1485 : (Jvm.Cond.code ({ cls := "ArmsHouse$Node", name := "gives", desc := "(J)LArmsHouse$Whole;" } : Jvm.MethodName) prog_7_method_5_code (3 : Nat) (Option.some (Jvm.ClassFile.FieldType.object "ArmsHouse$Whole"))) ∈ lw_all := lw_g (lw_at lw_m6 136 rfl) rfl
theorem q1486 : (Jvm.Cond.selects "ArmsHouse$One" ({ cls := "ArmsHouse$Node", name := "work", desc := "(LArmsHouse$Arms;)Ljava/lang/Object;" } : Jvm.MethodName) ({ cls := "ArmsHouse$One", name := "work", desc := "(LArmsHouse$Arms;)Ljava/lang/Object;" } : Jvm.MethodName)) ∈ lw_all := lw_g (lw_at lw_m6 137 rfl) rfl
theorem q1487 : (Jvm.Cond.instanceMethod ({ cls := "ArmsHouse$One", name := "work", desc := "(LArmsHouse$Arms;)Ljava/lang/Object;" } : Jvm.MethodName)) ∈ lw_all := lw_g (lw_at lw_m6 138 rfl) rfl
theorem q1488 : (Jvm.Cond.code ({ cls := "ArmsHouse$One", name := "work", desc := "(LArmsHouse$Arms;)Ljava/lang/Object;" } : Jvm.MethodName) prog_9_method_2_code (3 : Nat) (Option.some (Jvm.ClassFile.FieldType.object "java/lang/Object"))) ∈ lw_all := lw_g (lw_at lw_m6 139 rfl) rfl
theorem q1489 : (Jvm.Cond.methodLink "ArmsHouse$One" (23 : Nat) ({ cls := "ArmsHouse$Node", name := "tell", desc := "(LArmsHouse$Arms;)Ljava/lang/Object;" } : Jvm.MethodName)) ∈ lw_all := lw_g (lw_at lw_m6 140 rfl) rfl
theorem q1490 : (Jvm.Cond.methodLink "ArmsHouse$One" (27 : Nat) ({ cls := "ArmsHouse$One", name := "whole", desc := "(Ljava/lang/Object;)J" } : Jvm.MethodName)) ∈ lw_all := lw_g (lw_at lw_m6 141 rfl) rfl
theorem q1491 : (Jvm.Cond.sameMethod "ArmsHouse$One" "ArmsHouse$Node" "whole" "(Ljava/lang/Object;)J") ∈ lw_all := lw_g (lw_at lw_m6 142 rfl) rfl
theorem q1492 : (Jvm.Cond.declares ({ cls := "ArmsHouse$Node", name := "whole", desc := "(Ljava/lang/Object;)J" } : Jvm.MethodName)) ∈ lw_tbl := lw_at lw_m6 143 rfl
theorem q1493 : (Jvm.Cond.selects "ArmsHouse$One" ({ cls := "ArmsHouse$One", name := "whole", desc := "(Ljava/lang/Object;)J" } : Jvm.MethodName) ({ cls := "ArmsHouse$Node", name := "whole", desc := "(Ljava/lang/Object;)J" } : Jvm.MethodName)) ∈ lw_all := lw_g (lw_at lw_m6 144 rfl) rfl
theorem q1494 : (Jvm.Cond.instanceMethod ({ cls := "ArmsHouse$Node", name := "whole", desc := "(Ljava/lang/Object;)J" } : Jvm.MethodName)) ∈ lw_all := lw_g (lw_at lw_m6 145 rfl) rfl
theorem q1495 : (Jvm.Cond.code ({ cls := "ArmsHouse$Node", name := "whole", desc := "(Ljava/lang/Object;)J" } : Jvm.MethodName) prog_7_method_4_code (2 : Nat) (Option.some Jvm.ClassFile.FieldType.long)) ∈ lw_all := lw_g (lw_at lw_m6 146 rfl) rfl
theorem q1496 : (Jvm.Cond.methodLink "ArmsHouse$One" (31 : Nat) ({ cls := "ArmsHouse$One", name := "truth", desc := "(Z)LArmsHouse$Whole;" } : Jvm.MethodName)) ∈ lw_all := lw_g (lw_at lw_m6 147 rfl) rfl
theorem q1497 : (Jvm.Cond.sameMethod "ArmsHouse$One" "ArmsHouse$Node" "truth" "(Z)LArmsHouse$Whole;") ∈ lw_all := lw_g (lw_at lw_m6 148 rfl) rfl
theorem q1498 : (Jvm.Cond.declares ({ cls := "ArmsHouse$Node", name := "truth", desc := "(Z)LArmsHouse$Whole;" } : Jvm.MethodName)) ∈ lw_tbl := lw_at lw_m6 149 rfl
theorem q1499 : (Jvm.Cond.selects "ArmsHouse$One" ({ cls := "ArmsHouse$One", name := "truth", desc := "(Z)LArmsHouse$Whole;" } : Jvm.MethodName) ({ cls := "ArmsHouse$Node", name := "truth", desc := "(Z)LArmsHouse$Whole;" } : Jvm.MethodName)) ∈ lw_all := lw_g (lw_at lw_m6 150 rfl) rfl
theorem q1500 : (Jvm.Cond.instanceMethod ({ cls := "ArmsHouse$Node", name := "truth", desc := "(Z)LArmsHouse$Whole;" } : Jvm.MethodName)) ∈ lw_all := lw_g (lw_at lw_m6 151 rfl) rfl
theorem q1501 : (Jvm.Cond.code ({ cls := "ArmsHouse$Node", name := "truth", desc := "(Z)LArmsHouse$Whole;" } : Jvm.MethodName) prog_7_method_6_code (2 : Nat) (Option.some (Jvm.ClassFile.FieldType.object "ArmsHouse$Whole"))) ∈ lw_all := lw_g (lw_at lw_m6 152 rfl) rfl
theorem q1502 : (Jvm.Cond.methodLink "ArmsHouse$Node" (52 : Nat) ({ cls := "ArmsHouse$Node", name := "gives", desc := "(J)LArmsHouse$Whole;" } : Jvm.MethodName)) ∈ lw_all := lw_g (lw_at lw_m6 153 rfl) rfl
theorem q1503 : (Jvm.Cond.methodLink "ArmsHouse$One" (35 : Nat) ({ cls := "ArmsHouse$One", name := "gives", desc := "(J)LArmsHouse$Whole;" } : Jvm.MethodName)) ∈ lw_all := lw_g (lw_at lw_m6 154 rfl) rfl
theorem q1504 : (Jvm.Cond.sameMethod "ArmsHouse$One" "ArmsHouse$Node" "gives" "(J)LArmsHouse$Whole;") ∈ lw_all := lw_g (lw_at lw_m6 155 rfl) rfl
theorem q1505 : (Jvm.Cond.selects "ArmsHouse$One" ({ cls := "ArmsHouse$One", name := "gives", desc := "(J)LArmsHouse$Whole;" } : Jvm.MethodName) ({ cls := "ArmsHouse$Node", name := "gives", desc := "(J)LArmsHouse$Whole;" } : Jvm.MethodName)) ∈ lw_all := lw_g (lw_at lw_m6 156 rfl) rfl
theorem q1506 : (Jvm.Cond.methodLink "ArmsHouse$One" (45 : Nat) ({ cls := "ArmsHouse$One", name := "index", desc := "(J)I" } : Jvm.MethodName)) ∈ lw_all := lw_g (lw_at lw_m6 157 rfl) rfl
theorem q1508 : (Jvm.Cond.instanceMethod ({ cls := "ArmsHouse$One", name := "index", desc := "(J)I" } : Jvm.MethodName)) ∈ lw_all := lw_g (lw_at lw_m6 159 rfl) rfl
theorem q1509 : (Jvm.Cond.code ({ cls := "ArmsHouse$One", name := "index", desc := "(J)I" } : Jvm.MethodName) prog_9_method_3_code (3 : Nat) (Option.some Jvm.ClassFile.FieldType.int)) ∈ lw_all := lw_g (lw_at lw_m6 160 rfl) rfl
theorem q1510 : (Jvm.Cond.classLink "ArmsHouse$One" (49 : Nat) "ArmsHouse$Layer") ∈ lw_all := lw_g (lw_at lw_m6 161 rfl) rfl
theorem q1511 : (Jvm.Cond.methodLink "ArmsHouse$One" (55 : Nat) ({ cls := "ArmsHouse$One", name := "there", desc := "(LArmsHouse$Group;)LArmsHouse$Group;" } : Jvm.MethodName)) ∈ lw_all := lw_g (lw_at lw_m6 162 rfl) rfl
theorem q1513 : (Jvm.Cond.instanceMethod ({ cls := "ArmsHouse$One", name := "there", desc := "(LArmsHouse$Group;)LArmsHouse$Group;" } : Jvm.MethodName)) ∈ lw_all := lw_g (lw_at lw_m6 164 rfl) rfl
theorem q1514 : (Jvm.Cond.code ({ cls := "ArmsHouse$One", name := "there", desc := "(LArmsHouse$Group;)LArmsHouse$Group;" } : Jvm.MethodName) prog_9_method_6_code (2 : Nat) (Option.some (Jvm.ClassFile.FieldType.object "ArmsHouse$Group"))) ∈ lw_all := lw_g (lw_at lw_m6 165 rfl) rfl
theorem q1515 : (Jvm.Cond.classLink "ArmsHouse$One" (59 : Nat) "ArmsHouse$Field") ∈ lw_all := lw_g (lw_at lw_m6 166 rfl) rfl
theorem q1516 : (Jvm.Cond.methodLink "ArmsHouse$One" (64 : Nat) ({ cls := "ArmsHouse$One", name := "ofSecond", desc := "(LArmsHouse$Field;)LArmsHouse$Whole;" } : Jvm.MethodName)) ∈ lw_all := lw_g (lw_at lw_m6 167 rfl) rfl
theorem q1518 : (Jvm.Cond.instanceMethod ({ cls := "ArmsHouse$One", name := "ofSecond", desc := "(LArmsHouse$Field;)LArmsHouse$Whole;" } : Jvm.MethodName)) ∈ lw_all := lw_g (lw_at lw_m6 169 rfl) rfl
theorem q1519 : (Jvm.Cond.code ({ cls := "ArmsHouse$One", name := "ofSecond", desc := "(LArmsHouse$Field;)LArmsHouse$Whole;" } : Jvm.MethodName) prog_9_method_4_code (3 : Nat) (Option.some (Jvm.ClassFile.FieldType.object "ArmsHouse$Whole"))) ∈ lw_all := lw_g (lw_at lw_m6 170 rfl) rfl
theorem q1520 : (Jvm.Cond.classLink "ArmsHouse$One" (68 : Nat) "ArmsHouse$Tinged") ∈ lw_all := lw_g (lw_at lw_m6 171 rfl) rfl
theorem q1521 : (Jvm.Cond.interfaceEntry "ArmsHouse$One" (70 : Nat)) ∈ lw_tbl := lw_at lw_m6 172 rfl
theorem q1522 : (Jvm.Cond.methodLink "ArmsHouse$One" (70 : Nat) ({ cls := "ArmsHouse$Tinged", name := "tinct", desc := "()LArmsHouse$Whole;" } : Jvm.MethodName)) ∈ lw_all := lw_g (lw_at lw_m6 173 rfl) rfl
theorem q1523 : (Jvm.Cond.interfaceMethod "ArmsHouse$Tinged" "ArmsHouse$Tinged" "tinct" "()LArmsHouse$Whole;") ∈ lw_tbl := lw_at lw_m6 174 rfl
theorem q1524 : (Jvm.Cond.declares ({ cls := "ArmsHouse$Tinged", name := "tinct", desc := "()LArmsHouse$Whole;" } : Jvm.MethodName)) ∈ lw_tbl := lw_at lw_m6 175 rfl
theorem q1525 : (Jvm.Cond.castable "ArmsHouse$Field" "ArmsHouse$Tinged") ∈ lw_tbl := lw_at lw_m6 176 rfl
theorem q1526 : (Jvm.Cond.selects "ArmsHouse$Field" ({ cls := "ArmsHouse$Tinged", name := "tinct", desc := "()LArmsHouse$Whole;" } : Jvm.MethodName) ({ cls := "ArmsHouse$Field", name := "tinct", desc := "()LArmsHouse$Whole;" } : Jvm.MethodName)) ∈ lw_all := lw_g (lw_at lw_m6 177 rfl) rfl
theorem q1527 : (Jvm.Cond.unhidden "ArmsHouse$Field" "tinct" "()LArmsHouse$Whole;") ∈ lw_tbl := lw_at lw_m6 178 rfl
theorem q1528 : (Jvm.Cond.instanceMethod ({ cls := "ArmsHouse$Field", name := "tinct", desc := "()LArmsHouse$Whole;" } : Jvm.MethodName)) ∈ lw_all := lw_g (lw_at lw_m6 179 rfl) rfl
theorem q1529 : (Jvm.Cond.publicMethod ({ cls := "ArmsHouse$Field", name := "tinct", desc := "()LArmsHouse$Whole;" } : Jvm.MethodName)) ∈ lw_tbl := lw_at lw_m6 180 rfl
theorem q1530 : (Jvm.Cond.code ({ cls := "ArmsHouse$Field", name := "tinct", desc := "()LArmsHouse$Whole;" } : Jvm.MethodName) prog_4_method_5_code (1 : Nat) (Option.some (Jvm.ClassFile.FieldType.object "ArmsHouse$Whole"))) ∈ lw_all := lw_g (lw_at lw_m6 181 rfl) rfl
theorem q1531 : (Jvm.Cond.castable "ArmsHouse$Group" "ArmsHouse$Tinged") ∈ lw_tbl := lw_at lw_m6 182 rfl
theorem q1532 : (Jvm.Cond.declares ({ cls := "ArmsHouse$OneTinged", name := "tinct", desc := "()LArmsHouse$Whole;" } : Jvm.MethodName)) ∈ lw_tbl := lw_at lw_m6 183 rfl
theorem q1533 : (Jvm.Cond.unhidden "ArmsHouse$Group" "tinct" "()LArmsHouse$Whole;") ∈ lw_tbl := lw_at lw_m6 184 rfl
theorem q1534 : (Jvm.Cond.instanceMethod ({ cls := "ArmsHouse$OneTinged", name := "tinct", desc := "()LArmsHouse$Whole;" } : Jvm.MethodName)) ∈ lw_all := lw_g (lw_at lw_m6 185 rfl) rfl
theorem q1535 : (Jvm.Cond.publicMethod ({ cls := "ArmsHouse$OneTinged", name := "tinct", desc := "()LArmsHouse$Whole;" } : Jvm.MethodName)) ∈ lw_tbl := lw_at lw_m6 186 rfl
theorem q1536 : (Jvm.Cond.code ({ cls := "ArmsHouse$OneTinged", name := "tinct", desc := "()LArmsHouse$Whole;" } : Jvm.MethodName) prog_10_method_3_code (1 : Nat) (Option.some (Jvm.ClassFile.FieldType.object "ArmsHouse$Whole"))) ∈ lw_all := lw_g (lw_at lw_m6 187 rfl) rfl
theorem q1537 : (Jvm.Cond.interfaceEntry "ArmsHouse$OneTinged" (3 : Nat)) ∈ lw_tbl := lw_at lw_m6 188 rfl
theorem q1538 : (Jvm.Cond.methodLink "ArmsHouse$OneTinged" (3 : Nat) ({ cls := "ArmsHouse$OneTinged", name := "told", desc := "()LArmsHouse$Whole;" } : Jvm.MethodName)) ∈ lw_all := lw_g (lw_at lw_m6 189 rfl) rfl
theorem q1539 : (Jvm.Cond.interfaceMethod "ArmsHouse$OneTinged" "ArmsHouse$OneTinged" "told" "()LArmsHouse$Whole;") ∈ lw_tbl := lw_at lw_m6 190 rfl
theorem q1540 : (Jvm.Cond.declares ({ cls := "ArmsHouse$OneTinged", name := "told", desc := "()LArmsHouse$Whole;" } : Jvm.MethodName)) ∈ lw_tbl := lw_at lw_m6 191 rfl
theorem q1541 : (Jvm.Cond.castable "ArmsHouse$Field" "ArmsHouse$OneTinged") ∈ lw_tbl := lw_at lw_m6 192 rfl
theorem q1542 : (Jvm.Cond.selects "ArmsHouse$Field" ({ cls := "ArmsHouse$OneTinged", name := "told", desc := "()LArmsHouse$Whole;" } : Jvm.MethodName) ({ cls := "ArmsHouse$Field", name := "told", desc := "()LArmsHouse$Whole;" } : Jvm.MethodName)) ∈ lw_all := lw_g (lw_at lw_m6 193 rfl) rfl
theorem q1543 : (Jvm.Cond.unhidden "ArmsHouse$Field" "told" "()LArmsHouse$Whole;") ∈ lw_tbl := lw_at lw_m6 194 rfl
theorem q1544 : (Jvm.Cond.instanceMethod ({ cls := "ArmsHouse$Field", name := "told", desc := "()LArmsHouse$Whole;" } : Jvm.MethodName)) ∈ lw_all := lw_g (lw_at lw_m6 195 rfl) rfl
theorem q1545 : (Jvm.Cond.publicMethod ({ cls := "ArmsHouse$Field", name := "told", desc := "()LArmsHouse$Whole;" } : Jvm.MethodName)) ∈ lw_tbl := lw_at lw_m6 196 rfl
theorem q1546 : (Jvm.Cond.code ({ cls := "ArmsHouse$Field", name := "told", desc := "()LArmsHouse$Whole;" } : Jvm.MethodName) prog_4_method_2_code (1 : Nat) (Option.some (Jvm.ClassFile.FieldType.object "ArmsHouse$Whole"))) ∈ lw_all := lw_g (lw_at lw_m6 197 rfl) rfl
theorem q1547 : (Jvm.Cond.castable "ArmsHouse$Group" "ArmsHouse$OneTinged") ∈ lw_tbl := lw_at lw_m6 198 rfl
theorem q1548 : (Jvm.Cond.selects "ArmsHouse$Group" ({ cls := "ArmsHouse$OneTinged", name := "told", desc := "()LArmsHouse$Whole;" } : Jvm.MethodName) ({ cls := "ArmsHouse$Group", name := "told", desc := "()LArmsHouse$Whole;" } : Jvm.MethodName)) ∈ lw_all := lw_g (lw_at lw_m6 199 rfl) rfl
theorem q1549 : (Jvm.Cond.unhidden "ArmsHouse$Group" "told" "()LArmsHouse$Whole;") ∈ lw_tbl := lw_at lw_m6 200 rfl
theorem q1550 : (Jvm.Cond.instanceMethod ({ cls := "ArmsHouse$Group", name := "told", desc := "()LArmsHouse$Whole;" } : Jvm.MethodName)) ∈ lw_all := lw_g (lw_at lw_m6 201 rfl) rfl
theorem q1551 : (Jvm.Cond.publicMethod ({ cls := "ArmsHouse$Group", name := "told", desc := "()LArmsHouse$Whole;" } : Jvm.MethodName)) ∈ lw_tbl := lw_at lw_m6 202 rfl
theorem q1552 : (Jvm.Cond.code ({ cls := "ArmsHouse$Group", name := "told", desc := "()LArmsHouse$Whole;" } : Jvm.MethodName) prog_5_method_1_code (1 : Nat) (Option.some (Jvm.ClassFile.FieldType.object "ArmsHouse$Whole"))) ∈ lw_all := lw_g (lw_at lw_m6 203 rfl) rfl
theorem q1553 : (Jvm.Cond.castable "ArmsHouse$Ordinary" "ArmsHouse$OneTinged") ∈ lw_tbl := lw_at lw_m6 204 rfl
theorem q1554 : (Jvm.Cond.selects "ArmsHouse$Ordinary" ({ cls := "ArmsHouse$OneTinged", name := "told", desc := "()LArmsHouse$Whole;" } : Jvm.MethodName) ({ cls := "ArmsHouse$Ordinary", name := "told", desc := "()LArmsHouse$Whole;" } : Jvm.MethodName)) ∈ lw_all := lw_g (lw_at lw_m6 205 rfl) rfl
theorem q1555 : (Jvm.Cond.unhidden "ArmsHouse$Ordinary" "told" "()LArmsHouse$Whole;") ∈ lw_tbl := lw_at lw_m6 206 rfl
theorem q1556 : (Jvm.Cond.instanceMethod ({ cls := "ArmsHouse$Ordinary", name := "told", desc := "()LArmsHouse$Whole;" } : Jvm.MethodName)) ∈ lw_all := lw_g (lw_at lw_m6 207 rfl) rfl
theorem q1557 : (Jvm.Cond.publicMethod ({ cls := "ArmsHouse$Ordinary", name := "told", desc := "()LArmsHouse$Whole;" } : Jvm.MethodName)) ∈ lw_tbl := lw_at lw_m6 208 rfl
theorem q1558 : (Jvm.Cond.code ({ cls := "ArmsHouse$Ordinary", name := "told", desc := "()LArmsHouse$Whole;" } : Jvm.MethodName) prog_11_method_1_code (1 : Nat) (Option.some (Jvm.ClassFile.FieldType.object "ArmsHouse$Whole"))) ∈ lw_all := lw_g (lw_at lw_m6 209 rfl) rfl
theorem q1559 : (Jvm.Cond.interfaceEntry "ArmsHouse$OneTinged" (9 : Nat)) ∈ lw_tbl := lw_at lw_m6 210 rfl
theorem q1560 : (Jvm.Cond.methodLink "ArmsHouse$OneTinged" (9 : Nat) ({ cls := "ArmsHouse$OneTinged", name := "tincture", desc := "()I" } : Jvm.MethodName)) ∈ lw_all := lw_g (lw_at lw_m6 211 rfl) rfl
theorem q1561 : (Jvm.Cond.interfaceMethod "ArmsHouse$OneTinged" "ArmsHouse$OneTinged" "tincture" "()I") ∈ lw_tbl := lw_at lw_m6 212 rfl
theorem q1562 : (Jvm.Cond.declares ({ cls := "ArmsHouse$OneTinged", name := "tincture", desc := "()I" } : Jvm.MethodName)) ∈ lw_tbl := lw_at lw_m6 213 rfl
theorem q1563 : (Jvm.Cond.selects "ArmsHouse$Field" ({ cls := "ArmsHouse$OneTinged", name := "tincture", desc := "()I" } : Jvm.MethodName) ({ cls := "ArmsHouse$Field", name := "tincture", desc := "()I" } : Jvm.MethodName)) ∈ lw_all := lw_g (lw_at lw_m6 214 rfl) rfl
theorem q1564 : (Jvm.Cond.unhidden "ArmsHouse$Field" "tincture" "()I") ∈ lw_tbl := lw_at lw_m6 215 rfl
theorem q1565 : (Jvm.Cond.instanceMethod ({ cls := "ArmsHouse$Field", name := "tincture", desc := "()I" } : Jvm.MethodName)) ∈ lw_all := lw_g (lw_at lw_m6 216 rfl) rfl
theorem q1566 : (Jvm.Cond.publicMethod ({ cls := "ArmsHouse$Field", name := "tincture", desc := "()I" } : Jvm.MethodName)) ∈ lw_tbl := lw_at lw_m6 217 rfl
theorem q1567 : (Jvm.Cond.code ({ cls := "ArmsHouse$Field", name := "tincture", desc := "()I" } : Jvm.MethodName) prog_4_method_4_code (1 : Nat) (Option.some Jvm.ClassFile.FieldType.int)) ∈ lw_all := lw_g (lw_at lw_m6 218 rfl) rfl
theorem q1568 : (Jvm.Cond.selects "ArmsHouse$Group" ({ cls := "ArmsHouse$OneTinged", name := "tincture", desc := "()I" } : Jvm.MethodName) ({ cls := "ArmsHouse$Group", name := "tincture", desc := "()I" } : Jvm.MethodName)) ∈ lw_all := lw_g (lw_at lw_m6 219 rfl) rfl
theorem q1569 : (Jvm.Cond.unhidden "ArmsHouse$Group" "tincture" "()I") ∈ lw_tbl := lw_at lw_m6 220 rfl
theorem q1570 : (Jvm.Cond.instanceMethod ({ cls := "ArmsHouse$Group", name := "tincture", desc := "()I" } : Jvm.MethodName)) ∈ lw_all := lw_g (lw_at lw_m6 221 rfl) rfl
theorem q1571 : (Jvm.Cond.publicMethod ({ cls := "ArmsHouse$Group", name := "tincture", desc := "()I" } : Jvm.MethodName)) ∈ lw_tbl := lw_at lw_m6 222 rfl
theorem q1572 : (Jvm.Cond.code ({ cls := "ArmsHouse$Group", name := "tincture", desc := "()I" } : Jvm.MethodName) prog_5_method_3_code (1 : Nat) (Option.some Jvm.ClassFile.FieldType.int)) ∈ lw_all := lw_g (lw_at lw_m6 223 rfl) rfl
theorem q1573 : (Jvm.Cond.selects "ArmsHouse$Ordinary" ({ cls := "ArmsHouse$OneTinged", name := "tincture", desc := "()I" } : Jvm.MethodName) ({ cls := "ArmsHouse$Ordinary", name := "tincture", desc := "()I" } : Jvm.MethodName)) ∈ lw_all := lw_g (lw_at lw_m6 224 rfl) rfl
theorem q1574 : (Jvm.Cond.unhidden "ArmsHouse$Ordinary" "tincture" "()I") ∈ lw_tbl := lw_at lw_m6 225 rfl
theorem q1575 : (Jvm.Cond.instanceMethod ({ cls := "ArmsHouse$Ordinary", name := "tincture", desc := "()I" } : Jvm.MethodName)) ∈ lw_all := lw_g (lw_at lw_m6 226 rfl) rfl
theorem q1576 : (Jvm.Cond.publicMethod ({ cls := "ArmsHouse$Ordinary", name := "tincture", desc := "()I" } : Jvm.MethodName)) ∈ lw_tbl := lw_at lw_m6 227 rfl
theorem q1577 : (Jvm.Cond.code ({ cls := "ArmsHouse$Ordinary", name := "tincture", desc := "()I" } : Jvm.MethodName) prog_11_method_3_code (1 : Nat) (Option.some Jvm.ClassFile.FieldType.int)) ∈ lw_all := lw_g (lw_at lw_m6 228 rfl) rfl
theorem q1578 : (Jvm.Cond.castable "ArmsHouse$Layer" "ArmsHouse$Tinged") ∈ lw_tbl := lw_at lw_m6 229 rfl
theorem q1579 : (Jvm.Cond.selects "ArmsHouse$Layer" ({ cls := "ArmsHouse$Tinged", name := "tinct", desc := "()LArmsHouse$Whole;" } : Jvm.MethodName) ({ cls := "ArmsHouse$Layer", name := "tinct", desc := "()LArmsHouse$Whole;" } : Jvm.MethodName)) ∈ lw_all := lw_g (lw_at lw_m6 230 rfl) rfl
theorem q1580 : (Jvm.Cond.unhidden "ArmsHouse$Layer" "tinct" "()LArmsHouse$Whole;") ∈ lw_tbl := lw_at lw_m6 231 rfl
theorem q1581 : (Jvm.Cond.instanceMethod ({ cls := "ArmsHouse$Layer", name := "tinct", desc := "()LArmsHouse$Whole;" } : Jvm.MethodName)) ∈ lw_all := lw_g (lw_at lw_m6 232 rfl) rfl
theorem q1582 : (Jvm.Cond.publicMethod ({ cls := "ArmsHouse$Layer", name := "tinct", desc := "()LArmsHouse$Whole;" } : Jvm.MethodName)) ∈ lw_tbl := lw_at lw_m6 233 rfl
theorem q1583 : (Jvm.Cond.code ({ cls := "ArmsHouse$Layer", name := "tinct", desc := "()LArmsHouse$Whole;" } : Jvm.MethodName) prog_6_method_3_code (1 : Nat) (Option.some (Jvm.ClassFile.FieldType.object "ArmsHouse$Whole"))) ∈ lw_all := lw_g (lw_at lw_m6 234 rfl) rfl
theorem q1584 : (Jvm.Cond.methodLink "ArmsHouse$Layer" (59 : Nat) ({ cls := "ArmsHouse$Layer", name := "tinctOf", desc := "(LArmsHouse$Tinged;)LArmsHouse$Whole;" } : Jvm.MethodName)) ∈ lw_all := lw_g (lw_at lw_m6 235 rfl) rfl
theorem q1585 : (Jvm.Cond.static ({ cls := "ArmsHouse$Layer", name := "tinctOf", desc := "(LArmsHouse$Tinged;)LArmsHouse$Whole;" } : Jvm.MethodName)) ∈ lw_all := lw_g (lw_at lw_m6 236 rfl) rfl
theorem q1586 : (Jvm.Cond.code ({ cls := "ArmsHouse$Layer", name := "tinctOf", desc := "(LArmsHouse$Tinged;)LArmsHouse$Whole;" } : Jvm.MethodName) prog_6_method_4_code (1 : Nat) (Option.some (Jvm.ClassFile.FieldType.object "ArmsHouse$Whole"))) ∈ lw_all := lw_g (lw_at lw_m6 237 rfl) rfl
theorem q1587 : (Jvm.Cond.interfaceEntry "ArmsHouse$Layer" (63 : Nat)) ∈ lw_tbl := lw_at lw_m6 238 rfl
theorem q1588 : (Jvm.Cond.methodLink "ArmsHouse$Layer" (63 : Nat) ({ cls := "ArmsHouse$Tinged", name := "tinct", desc := "()LArmsHouse$Whole;" } : Jvm.MethodName)) ∈ lw_all := lw_g (lw_at lw_m6 239 rfl) rfl
theorem q1589 : (Jvm.Cond.castable "ArmsHouse$Ordinary" "ArmsHouse$Tinged") ∈ lw_tbl := lw_at lw_m7 0 rfl
theorem q1590 : (Jvm.Cond.unhidden "ArmsHouse$Ordinary" "tinct" "()LArmsHouse$Whole;") ∈ lw_tbl := lw_at lw_m7 1 rfl
theorem q1591 : (Jvm.Cond.classLink "ArmsHouse$One" (80 : Nat) "ArmsHouse$Group") ∈ lw_all := lw_g (lw_at lw_m7 2 rfl) rfl
theorem q1592 : (Jvm.Cond.fieldLinkNest "ArmsHouse$One" (96 : Nat) "ArmsHouse" "KINDS" "[I" "ArmsHouse") ∈ lw_tbl := lw_at lw_m7 3 rfl
theorem q1593 : (Jvm.Cond.laysStatic "ArmsHouse" "KINDS" "[I") ∈ lw_tbl := lw_at lw_m7 4 rfl
theorem q1594 : (Jvm.Cond.methodLink "ArmsHouse$One" (100 : Nat) ({ cls := "ArmsHouse$One", name := "ofPart", desc := "(LArmsHouse$Layer;)LArmsHouse$Whole;" } : Jvm.MethodName)) ∈ lw_all := lw_g (lw_at lw_m7 5 rfl) rfl
theorem q1596 : (Jvm.Cond.instanceMethod ({ cls := "ArmsHouse$One", name := "ofPart", desc := "(LArmsHouse$Layer;)LArmsHouse$Whole;" } : Jvm.MethodName)) ∈ lw_all := lw_g (lw_at lw_m7 7 rfl) rfl
theorem q1597 : (Jvm.Cond.code ({ cls := "ArmsHouse$One", name := "ofPart", desc := "(LArmsHouse$Layer;)LArmsHouse$Whole;" } : Jvm.MethodName) prog_9_method_5_code (3 : Nat) (Option.some (Jvm.ClassFile.FieldType.object "ArmsHouse$Whole"))) ∈ lw_all := lw_g (lw_at lw_m7 8 rfl) rfl
theorem q1598 : (Jvm.Cond.selects "ArmsHouse$Plain" ({ cls := "ArmsHouse$Node", name := "work", desc := "(LArmsHouse$Arms;)Ljava/lang/Object;" } : Jvm.MethodName) ({ cls := "ArmsHouse$Plain", name := "work", desc := "(LArmsHouse$Arms;)Ljava/lang/Object;" } : Jvm.MethodName)) ∈ lw_all := lw_g (lw_at lw_m7 9 rfl) rfl
theorem q1599 : (Jvm.Cond.instanceMethod ({ cls := "ArmsHouse$Plain", name := "work", desc := "(LArmsHouse$Arms;)Ljava/lang/Object;" } : Jvm.MethodName)) ∈ lw_all := lw_g (lw_at lw_m7 10 rfl) rfl
theorem q1600 : (Jvm.Cond.code ({ cls := "ArmsHouse$Plain", name := "work", desc := "(LArmsHouse$Arms;)Ljava/lang/Object;" } : Jvm.MethodName) prog_13_method_2_code (2 : Nat) (Option.some (Jvm.ClassFile.FieldType.object "java/lang/Object"))) ∈ lw_all := lw_g (lw_at lw_m7 11 rfl) rfl
theorem q1601 : (Jvm.Cond.methodLink "ArmsHouse$Plain" (29 : Nat) ({ cls := "ArmsHouse$Plain", name := "gives", desc := "(J)LArmsHouse$Whole;" } : Jvm.MethodName)) ∈ lw_all := lw_g (lw_at lw_m7 12 rfl) rfl
theorem q1602 : (Jvm.Cond.sameMethod "ArmsHouse$Plain" "ArmsHouse$Node" "gives" "(J)LArmsHouse$Whole;") ∈ lw_all := lw_g (lw_at lw_m7 13 rfl) rfl
theorem q1603 : (Jvm.Cond.selects "ArmsHouse$Plain" ({ cls := "ArmsHouse$Plain", name := "gives", desc := "(J)LArmsHouse$Whole;" } : Jvm.MethodName) ({ cls := "ArmsHouse$Node", name := "gives", desc := "(J)LArmsHouse$Whole;" } : Jvm.MethodName)) ∈ lw_all := lw_g (lw_at lw_m7 14 rfl) rfl
theorem q1604 : (Jvm.Cond.methodLinkNest "ArmsHouse$Plain" (33 : Nat) ({ cls := "ArmsHouse", name := "judge", desc := "(LArmsHouse$Arms;)V" } : Jvm.MethodName) "ArmsHouse") ∈ lw_tbl := lw_at lw_m7 15 rfl
theorem q1605 : (Jvm.Cond.selects "ArmsHouse$Try" ({ cls := "ArmsHouse$Node", name := "work", desc := "(LArmsHouse$Arms;)Ljava/lang/Object;" } : Jvm.MethodName) ({ cls := "ArmsHouse$Try", name := "work", desc := "(LArmsHouse$Arms;)Ljava/lang/Object;" } : Jvm.MethodName)) ∈ lw_all := lw_g (lw_at lw_m7 16 rfl) rfl
theorem q1606 : (Jvm.Cond.instanceMethod ({ cls := "ArmsHouse$Try", name := "work", desc := "(LArmsHouse$Arms;)Ljava/lang/Object;" } : Jvm.MethodName)) ∈ lw_all := lw_g (lw_at lw_m7 17 rfl) rfl
theorem q1607 : (Jvm.Cond.codeWith ({ cls := "ArmsHouse$Try", name := "work", desc := "(LArmsHouse$Arms;)Ljava/lang/Object;" } : Jvm.MethodName) prog_16_method_2_code (3 : Nat) (Option.some (Jvm.ClassFile.FieldType.object "java/lang/Object")) [((0 : Nat), (8 : Nat), (9 : Nat), (24 : Nat))]) ∈ lw_all := lw_g (lw_at lw_m7 18 rfl) rfl
theorem q1608 : (Jvm.Cond.classLink "ArmsHouse$Try" (24 : Nat) "ArmsHouse$Failure") ∈ lw_all := lw_g (lw_at lw_m7 19 rfl) rfl
theorem q1609 : (Jvm.Cond.methodLink "ArmsHouse$Try" (20 : Nat) ({ cls := "ArmsHouse$Node", name := "tell", desc := "(LArmsHouse$Arms;)Ljava/lang/Object;" } : Jvm.MethodName)) ∈ lw_all := lw_g (lw_at lw_m7 20 rfl) rfl
theorem q1610 : (Jvm.Cond.selects "ArmsHouse$Two" ({ cls := "ArmsHouse$Node", name := "work", desc := "(LArmsHouse$Arms;)Ljava/lang/Object;" } : Jvm.MethodName) ({ cls := "ArmsHouse$Two", name := "work", desc := "(LArmsHouse$Arms;)Ljava/lang/Object;" } : Jvm.MethodName)) ∈ lw_all := lw_g (lw_at lw_m7 21 rfl) rfl
theorem q1611 : (Jvm.Cond.instanceMethod ({ cls := "ArmsHouse$Two", name := "work", desc := "(LArmsHouse$Arms;)Ljava/lang/Object;" } : Jvm.MethodName)) ∈ lw_all := lw_g (lw_at lw_m7 22 rfl) rfl
theorem q1612 : (Jvm.Cond.code ({ cls := "ArmsHouse$Two", name := "work", desc := "(LArmsHouse$Arms;)Ljava/lang/Object;" } : Jvm.MethodName) prog_17_method_2_code (8 : Nat) (Option.some (Jvm.ClassFile.FieldType.object "java/lang/Object"))) ∈ lw_all := lw_g (lw_at lw_m7 23 rfl) rfl
theorem q1613 : (Jvm.Cond.methodLink "ArmsHouse$Two" (26 : Nat) ({ cls := "ArmsHouse$Node", name := "tell", desc := "(LArmsHouse$Arms;)Ljava/lang/Object;" } : Jvm.MethodName)) ∈ lw_all := lw_g (lw_at lw_m7 24 rfl) rfl
theorem q1614 : (Jvm.Cond.methodLink "ArmsHouse$Two" (30 : Nat) ({ cls := "ArmsHouse$Two", name := "whole", desc := "(Ljava/lang/Object;)J" } : Jvm.MethodName)) ∈ lw_all := lw_g (lw_at lw_m7 25 rfl) rfl
theorem q1615 : (Jvm.Cond.sameMethod "ArmsHouse$Two" "ArmsHouse$Node" "whole" "(Ljava/lang/Object;)J") ∈ lw_all := lw_g (lw_at lw_m7 26 rfl) rfl
theorem q1616 : (Jvm.Cond.selects "ArmsHouse$Two" ({ cls := "ArmsHouse$Two", name := "whole", desc := "(Ljava/lang/Object;)J" } : Jvm.MethodName) ({ cls := "ArmsHouse$Node", name := "whole", desc := "(Ljava/lang/Object;)J" } : Jvm.MethodName)) ∈ lw_all := lw_g (lw_at lw_m7 27 rfl) rfl
theorem q1617 : (Jvm.Cond.methodLink "ArmsHouse$Two" (34 : Nat) ({ cls := "ArmsHouse$Two", name := "truth", desc := "(Z)LArmsHouse$Whole;" } : Jvm.MethodName)) ∈ lw_all := lw_g (lw_at lw_m7 28 rfl) rfl
theorem q1618 : (Jvm.Cond.sameMethod "ArmsHouse$Two" "ArmsHouse$Node" "truth" "(Z)LArmsHouse$Whole;") ∈ lw_all := lw_g (lw_at lw_m7 29 rfl) rfl
theorem q1619 : (Jvm.Cond.selects "ArmsHouse$Two" ({ cls := "ArmsHouse$Two", name := "truth", desc := "(Z)LArmsHouse$Whole;" } : Jvm.MethodName) ({ cls := "ArmsHouse$Node", name := "truth", desc := "(Z)LArmsHouse$Whole;" } : Jvm.MethodName)) ∈ lw_all := lw_g (lw_at lw_m7 30 rfl) rfl
theorem q1620 : (Jvm.Cond.classLink "ArmsHouse$Two" (38 : Nat) "ArmsHouse$Whole") ∈ lw_all := lw_g (lw_at lw_m7 31 rfl) rfl
theorem q1621 : (Jvm.Cond.methodLink "ArmsHouse$Two" (40 : Nat) ({ cls := "ArmsHouse$Two", name := "gives", desc := "(J)LArmsHouse$Whole;" } : Jvm.MethodName)) ∈ lw_all := lw_g (lw_at lw_m7 32 rfl) rfl
theorem q1622 : (Jvm.Cond.sameMethod "ArmsHouse$Two" "ArmsHouse$Node" "gives" "(J)LArmsHouse$Whole;") ∈ lw_all := lw_g (lw_at lw_m7 33 rfl) rfl
theorem q1623 : (Jvm.Cond.selects "ArmsHouse$Two" ({ cls := "ArmsHouse$Two", name := "gives", desc := "(J)LArmsHouse$Whole;" } : Jvm.MethodName) ({ cls := "ArmsHouse$Node", name := "gives", desc := "(J)LArmsHouse$Whole;" } : Jvm.MethodName)) ∈ lw_all := lw_g (lw_at lw_m7 34 rfl) rfl
theorem q1624 : (Jvm.Cond.methodLink "ArmsHouse" (780 : Nat) ({ cls := "ArmsHouse$Node", name := "whole", desc := "(Ljava/lang/Object;)J" } : Jvm.MethodName)) ∈ lw_all := lw_g (lw_at lw_m7 35 rfl) rfl
theorem q1625 : (Jvm.Cond.methodLink "ArmsHouseLaw" (137 : Nat) ({ cls := "ArmsHouse", name := "value", desc := "()J" } : Jvm.MethodName)) ∈ lw_all := lw_g (lw_at lw_m7 36 rfl) rfl
theorem q1626 : (Jvm.Cond.instanceMethod ({ cls := "ArmsHouse", name := "value", desc := "()J" } : Jvm.MethodName)) ∈ lw_all := lw_g (lw_at lw_m7 37 rfl) rfl
theorem q1627 : (Jvm.Cond.selects "ArmsHouse" ({ cls := "ArmsHouse", name := "value", desc := "()J" } : Jvm.MethodName) ({ cls := "ArmsHouse", name := "value", desc := "()J" } : Jvm.MethodName)) ∈ lw_all := lw_g (lw_at lw_m7 38 rfl) rfl
theorem q1628 : (Jvm.Cond.code ({ cls := "ArmsHouse", name := "value", desc := "()J" } : Jvm.MethodName) prog_1_method_104_code (1 : Nat) (Option.some Jvm.ClassFile.FieldType.long)) ∈ lw_all := lw_g (lw_at lw_m7 39 rfl) rfl
theorem q1629 : (Jvm.Cond.methodLink "ArmsHouseLaw" (142 : Nat) ({ cls := "ArmsHouse", name := "failedAt", desc := "()I" } : Jvm.MethodName)) ∈ lw_all := lw_g (lw_at lw_m7 40 rfl) rfl
theorem q1630 : (Jvm.Cond.instanceMethod ({ cls := "ArmsHouse", name := "failedAt", desc := "()I" } : Jvm.MethodName)) ∈ lw_all := lw_g (lw_at lw_m7 41 rfl) rfl
theorem q1631 : (Jvm.Cond.selects "ArmsHouse" ({ cls := "ArmsHouse", name := "failedAt", desc := "()I" } : Jvm.MethodName) ({ cls := "ArmsHouse", name := "failedAt", desc := "()I" } : Jvm.MethodName)) ∈ lw_all := lw_g (lw_at lw_m7 42 rfl) rfl
theorem q1632 : (Jvm.Cond.code ({ cls := "ArmsHouse", name := "failedAt", desc := "()I" } : Jvm.MethodName) prog_1_method_105_code (1 : Nat) (Option.some Jvm.ClassFile.FieldType.int)) ∈ lw_all := lw_g (lw_at lw_m7 43 rfl) rfl
theorem q1633 : (Jvm.Cond.methodLink "ArmsHouseLaw" (146 : Nat) ({ cls := "ArmsHouse", name := "family", desc := "(I)I" } : Jvm.MethodName)) ∈ lw_all := lw_g (lw_at lw_m7 44 rfl) rfl
theorem q1634 : (Jvm.Cond.instanceMethod ({ cls := "ArmsHouse", name := "family", desc := "(I)I" } : Jvm.MethodName)) ∈ lw_all := lw_g (lw_at lw_m7 45 rfl) rfl
theorem q1635 : (Jvm.Cond.selects "ArmsHouse" ({ cls := "ArmsHouse", name := "family", desc := "(I)I" } : Jvm.MethodName) ({ cls := "ArmsHouse", name := "family", desc := "(I)I" } : Jvm.MethodName)) ∈ lw_all := lw_g (lw_at lw_m7 46 rfl) rfl
theorem q1636 : (Jvm.Cond.code ({ cls := "ArmsHouse", name := "family", desc := "(I)I" } : Jvm.MethodName) prog_1_method_108_code (2 : Nat) (Option.some Jvm.ClassFile.FieldType.int)) ∈ lw_all := lw_g (lw_at lw_m7 47 rfl) rfl
theorem q1637 : (Jvm.Cond.constantLong "ArmsHouse" (796 : Nat) (21680 : Int64)) ∈ lw_all := lw_g (lw_at lw_m7 48 rfl) rfl
theorem q1638 : (Jvm.Cond.methodLink "ArmsHouseLaw" (150 : Nat) ({ cls := "ArmsHouse", name := "at", desc := "(I)I" } : Jvm.MethodName)) ∈ lw_all := lw_g (lw_at lw_m7 49 rfl) rfl
theorem q1639 : (Jvm.Cond.instanceMethod ({ cls := "ArmsHouse", name := "at", desc := "(I)I" } : Jvm.MethodName)) ∈ lw_all := lw_g (lw_at lw_m7 50 rfl) rfl
theorem q1640 : (Jvm.Cond.selects "ArmsHouse" ({ cls := "ArmsHouse", name := "at", desc := "(I)I" } : Jvm.MethodName) ({ cls := "ArmsHouse", name := "at", desc := "(I)I" } : Jvm.MethodName)) ∈ lw_all := lw_g (lw_at lw_m7 51 rfl) rfl
theorem q1641 : (Jvm.Cond.code ({ cls := "ArmsHouse", name := "at", desc := "(I)I" } : Jvm.MethodName) prog_1_method_109_code (2 : Nat) (Option.some Jvm.ClassFile.FieldType.int)) ∈ lw_all := lw_g (lw_at lw_m7 52 rfl) rfl
theorem q1642 : (Jvm.Cond.methodLink "ArmsHouseLaw" (154 : Nat) ({ cls := "ArmsHouse", name := "rank", desc := "(I)I" } : Jvm.MethodName)) ∈ lw_all := lw_g (lw_at lw_m7 53 rfl) rfl
theorem q1643 : (Jvm.Cond.instanceMethod ({ cls := "ArmsHouse", name := "rank", desc := "(I)I" } : Jvm.MethodName)) ∈ lw_all := lw_g (lw_at lw_m7 54 rfl) rfl
theorem q1644 : (Jvm.Cond.selects "ArmsHouse" ({ cls := "ArmsHouse", name := "rank", desc := "(I)I" } : Jvm.MethodName) ({ cls := "ArmsHouse", name := "rank", desc := "(I)I" } : Jvm.MethodName)) ∈ lw_all := lw_g (lw_at lw_m7 55 rfl) rfl
theorem q1645 : (Jvm.Cond.code ({ cls := "ArmsHouse", name := "rank", desc := "(I)I" } : Jvm.MethodName) prog_1_method_111_code (3 : Nat) (Option.some Jvm.ClassFile.FieldType.int)) ∈ lw_all := lw_g (lw_at lw_m7 56 rfl) rfl
theorem q1646 : (Jvm.Cond.methodLink "ArmsHouse" (798 : Nat) ({ cls := "ArmsHouse", name := "rankFrom", desc := "(I)I" } : Jvm.MethodName)) ∈ lw_all := lw_g (lw_at lw_m7 57 rfl) rfl
theorem q1648 : (Jvm.Cond.instanceMethod ({ cls := "ArmsHouse", name := "rankFrom", desc := "(I)I" } : Jvm.MethodName)) ∈ lw_all := lw_g (lw_at lw_m7 59 rfl) rfl
theorem q1649 : (Jvm.Cond.code ({ cls := "ArmsHouse", name := "rankFrom", desc := "(I)I" } : Jvm.MethodName) prog_1_method_110_code (5 : Nat) (Option.some Jvm.ClassFile.FieldType.int)) ∈ lw_all := lw_g (lw_at lw_m7 60 rfl) rfl
theorem q1650 : (Jvm.Cond.methodLink "ArmsHouseLaw" (158 : Nat) ({ cls := "ArmsHouse", name := "find", desc := "(IIII)I" } : Jvm.MethodName)) ∈ lw_all := lw_g (lw_at lw_m7 61 rfl) rfl
theorem q1651 : (Jvm.Cond.instanceMethod ({ cls := "ArmsHouse", name := "find", desc := "(IIII)I" } : Jvm.MethodName)) ∈ lw_all := lw_g (lw_at lw_m7 62 rfl) rfl
theorem q1652 : (Jvm.Cond.selects "ArmsHouse" ({ cls := "ArmsHouse", name := "find", desc := "(IIII)I" } : Jvm.MethodName) ({ cls := "ArmsHouse", name := "find", desc := "(IIII)I" } : Jvm.MethodName)) ∈ lw_all := lw_g (lw_at lw_m7 63 rfl) rfl
theorem q1653 : (Jvm.Cond.code ({ cls := "ArmsHouse", name := "find", desc := "(IIII)I" } : Jvm.MethodName) prog_1_method_112_code (7 : Nat) (Option.some Jvm.ClassFile.FieldType.int)) ∈ lw_all := lw_g (lw_at lw_m7 64 rfl) rfl
theorem q1654 : (Jvm.Cond.methodLink "ArmsHouse" (801 : Nat) ({ cls := "ArmsHouse", name := "tells", desc := "(ILArmsHouse$Arms;)Z" } : Jvm.MethodName)) ∈ lw_all := lw_g (lw_at lw_m7 65 rfl) rfl
theorem q1656 : (Jvm.Cond.instanceMethod ({ cls := "ArmsHouse", name := "tells", desc := "(ILArmsHouse$Arms;)Z" } : Jvm.MethodName)) ∈ lw_all := lw_g (lw_at lw_m7 67 rfl) rfl
theorem q1657 : (Jvm.Cond.code ({ cls := "ArmsHouse", name := "tells", desc := "(ILArmsHouse$Arms;)Z" } : Jvm.MethodName) prog_1_method_102_code (3 : Nat) (Option.some Jvm.ClassFile.FieldType.boolean)) ∈ lw_all := lw_g (lw_at lw_m7 68 rfl) rfl
theorem q1658 : (Jvm.Cond.methodLink "ArmsHouseLaw" (163 : Nat) ({ cls := "ArmsHouse", name := "tally", desc := "(III)I" } : Jvm.MethodName)) ∈ lw_all := lw_g (lw_at lw_m7 69 rfl) rfl
theorem q1659 : (Jvm.Cond.instanceMethod ({ cls := "ArmsHouse", name := "tally", desc := "(III)I" } : Jvm.MethodName)) ∈ lw_all := lw_g (lw_at lw_m7 70 rfl) rfl
theorem q1660 : (Jvm.Cond.selects "ArmsHouse" ({ cls := "ArmsHouse", name := "tally", desc := "(III)I" } : Jvm.MethodName) ({ cls := "ArmsHouse", name := "tally", desc := "(III)I" } : Jvm.MethodName)) ∈ lw_all := lw_g (lw_at lw_m7 71 rfl) rfl
theorem q1661 : (Jvm.Cond.code ({ cls := "ArmsHouse", name := "tally", desc := "(III)I" } : Jvm.MethodName) prog_1_method_113_code (6 : Nat) (Option.some Jvm.ClassFile.FieldType.int)) ∈ lw_all := lw_g (lw_at lw_m7 72 rfl) rfl
theorem q1662 : (Jvm.Cond.methodLink "ArmsHouseLaw" (167 : Nat) ({ cls := "ArmsHouse", name := "show", desc := "(III)I" } : Jvm.MethodName)) ∈ lw_all := lw_g (lw_at lw_m7 73 rfl) rfl
theorem q1663 : (Jvm.Cond.instanceMethod ({ cls := "ArmsHouse", name := "show", desc := "(III)I" } : Jvm.MethodName)) ∈ lw_all := lw_g (lw_at lw_m7 74 rfl) rfl
theorem q1664 : (Jvm.Cond.selects "ArmsHouse" ({ cls := "ArmsHouse", name := "show", desc := "(III)I" } : Jvm.MethodName) ({ cls := "ArmsHouse", name := "show", desc := "(III)I" } : Jvm.MethodName)) ∈ lw_all := lw_g (lw_at lw_m7 75 rfl) rfl
theorem q1665 : (Jvm.Cond.code ({ cls := "ArmsHouse", name := "show", desc := "(III)I" } : Jvm.MethodName) prog_1_method_114_code (5 : Nat) (Option.some Jvm.ClassFile.FieldType.int)) ∈ lw_all := lw_g (lw_at lw_m7 76 rfl) rfl
theorem q1666 : (Jvm.Cond.methodLink "ArmsHouseLaw" (171 : Nat) ({ cls := "ArmsHouse", name := "least", desc := "()I" } : Jvm.MethodName)) ∈ lw_all := lw_g (lw_at lw_m7 77 rfl) rfl
theorem q1667 : (Jvm.Cond.instanceMethod ({ cls := "ArmsHouse", name := "least", desc := "()I" } : Jvm.MethodName)) ∈ lw_all := lw_g (lw_at lw_m7 78 rfl) rfl
theorem q1668 : (Jvm.Cond.selects "ArmsHouse" ({ cls := "ArmsHouse", name := "least", desc := "()I" } : Jvm.MethodName) ({ cls := "ArmsHouse", name := "least", desc := "()I" } : Jvm.MethodName)) ∈ lw_all := lw_g (lw_at lw_m7 79 rfl) rfl
theorem q1669 : (Jvm.Cond.code ({ cls := "ArmsHouse", name := "least", desc := "()I" } : Jvm.MethodName) prog_1_method_115_code (1 : Nat) (Option.some Jvm.ClassFile.FieldType.int)) ∈ lw_all := lw_g (lw_at lw_m7 80 rfl) rfl
theorem q1670 : (Jvm.Cond.methodLink "ArmsHouseLaw" (175 : Nat) ({ cls := "ArmsHouse", name := "count", desc := "(I)I" } : Jvm.MethodName)) ∈ lw_all := lw_g (lw_at lw_m7 81 rfl) rfl
theorem q1671 : (Jvm.Cond.instanceMethod ({ cls := "ArmsHouse", name := "count", desc := "(I)I" } : Jvm.MethodName)) ∈ lw_all := lw_g (lw_at lw_m7 82 rfl) rfl
theorem q1672 : (Jvm.Cond.selects "ArmsHouse" ({ cls := "ArmsHouse", name := "count", desc := "(I)I" } : Jvm.MethodName) ({ cls := "ArmsHouse", name := "count", desc := "(I)I" } : Jvm.MethodName)) ∈ lw_all := lw_g (lw_at lw_m7 83 rfl) rfl
theorem q1673 : (Jvm.Cond.code ({ cls := "ArmsHouse", name := "count", desc := "(I)I" } : Jvm.MethodName) prog_1_method_116_code (2 : Nat) (Option.some Jvm.ClassFile.FieldType.int)) ∈ lw_all := lw_g (lw_at lw_m7 84 rfl) rfl
theorem q1674 : (Jvm.Cond.methodLink "ArmsHouseLaw" (19 : Nat) ({ cls := "ArmsHouseModel", name := "feed", desc := "(JI)I" } : Jvm.MethodName)) ∈ lw_all := lw_g (lw_at lw_m7 85 rfl) rfl
theorem q1675 : (Jvm.Cond.instanceMethod ({ cls := "ArmsHouseModel", name := "feed", desc := "(JI)I" } : Jvm.MethodName)) ∈ lw_all := lw_g (lw_at lw_m7 86 rfl) rfl
theorem q1676 : (Jvm.Cond.selects "ArmsHouseModel" ({ cls := "ArmsHouseModel", name := "feed", desc := "(JI)I" } : Jvm.MethodName) ({ cls := "ArmsHouseModel", name := "feed", desc := "(JI)I" } : Jvm.MethodName)) ∈ lw_all := lw_g (lw_at lw_m7 87 rfl) rfl
theorem q1677 : (Jvm.Cond.code ({ cls := "ArmsHouseModel", name := "feed", desc := "(JI)I" } : Jvm.MethodName) prog_20_method_10_code (5 : Nat) (Option.some Jvm.ClassFile.FieldType.int)) ∈ lw_all := lw_g (lw_at lw_m7 88 rfl) rfl
theorem q1678 : (Jvm.Cond.methodLink "ArmsHouseLaw" (24 : Nat) ({ cls := "ArmsHouseModel", name := "cut", desc := "(I)I" } : Jvm.MethodName)) ∈ lw_all := lw_g (lw_at lw_m7 89 rfl) rfl
theorem q1679 : (Jvm.Cond.instanceMethod ({ cls := "ArmsHouseModel", name := "cut", desc := "(I)I" } : Jvm.MethodName)) ∈ lw_all := lw_g (lw_at lw_m7 90 rfl) rfl
theorem q1680 : (Jvm.Cond.selects "ArmsHouseModel" ({ cls := "ArmsHouseModel", name := "cut", desc := "(I)I" } : Jvm.MethodName) ({ cls := "ArmsHouseModel", name := "cut", desc := "(I)I" } : Jvm.MethodName)) ∈ lw_all := lw_g (lw_at lw_m7 91 rfl) rfl
theorem q1681 : (Jvm.Cond.code ({ cls := "ArmsHouseModel", name := "cut", desc := "(I)I" } : Jvm.MethodName) prog_20_method_11_code (3 : Nat) (Option.some Jvm.ClassFile.FieldType.int)) ∈ lw_all := lw_g (lw_at lw_m7 92 rfl) rfl
theorem q1682 : (Jvm.Cond.methodLink "ArmsHouseLaw" (29 : Nat) ({ cls := "ArmsHouseModel", name := "turn", desc := "()I" } : Jvm.MethodName)) ∈ lw_all := lw_g (lw_at lw_m7 93 rfl) rfl
theorem q1683 : (Jvm.Cond.instanceMethod ({ cls := "ArmsHouseModel", name := "turn", desc := "()I" } : Jvm.MethodName)) ∈ lw_all := lw_g (lw_at lw_m7 94 rfl) rfl
theorem q1684 : (Jvm.Cond.selects "ArmsHouseModel" ({ cls := "ArmsHouseModel", name := "turn", desc := "()I" } : Jvm.MethodName) ({ cls := "ArmsHouseModel", name := "turn", desc := "()I" } : Jvm.MethodName)) ∈ lw_all := lw_g (lw_at lw_m7 95 rfl) rfl
theorem q1685 : (Jvm.Cond.code ({ cls := "ArmsHouseModel", name := "turn", desc := "()I" } : Jvm.MethodName) prog_20_method_12_code (2 : Nat) (Option.some Jvm.ClassFile.FieldType.int)) ∈ lw_all := lw_g (lw_at lw_m7 96 rfl) rfl
theorem q1686 : (Jvm.Cond.methodLink "ArmsHouseLaw" (33 : Nat) ({ cls := "ArmsHouseModel", name := "out", desc := "(I)I" } : Jvm.MethodName)) ∈ lw_all := lw_g (lw_at lw_m7 97 rfl) rfl
theorem q1687 : (Jvm.Cond.instanceMethod ({ cls := "ArmsHouseModel", name := "out", desc := "(I)I" } : Jvm.MethodName)) ∈ lw_all := lw_g (lw_at lw_m7 98 rfl) rfl
theorem q1688 : (Jvm.Cond.selects "ArmsHouseModel" ({ cls := "ArmsHouseModel", name := "out", desc := "(I)I" } : Jvm.MethodName) ({ cls := "ArmsHouseModel", name := "out", desc := "(I)I" } : Jvm.MethodName)) ∈ lw_all := lw_g (lw_at lw_m7 99 rfl) rfl
theorem q1689 : (Jvm.Cond.code ({ cls := "ArmsHouseModel", name := "out", desc := "(I)I" } : Jvm.MethodName) prog_20_method_13_code (2 : Nat) (Option.some Jvm.ClassFile.FieldType.int)) ∈ lw_all := lw_g (lw_at lw_m7 100 rfl) rfl
theorem q1690 : (Jvm.Cond.classLink "ArmsHouseLaw" (10 : Nat) "ArmsHouseModel") ∈ lw_all := lw_g (lw_at lw_m7 101 rfl) rfl
theorem q1691 : (Jvm.Cond.instantiable "ArmsHouseModel" (68 : Nat)) ∈ lw_all := lw_g (lw_at lw_m7 102 rfl) rfl
theorem q1692 : (Jvm.Cond.methodLink "ArmsHouseLaw" (12 : Nat) ({ cls := "ArmsHouseModel", name := "<init>", desc := "()V" } : Jvm.MethodName)) ∈ lw_all := lw_g (lw_at lw_m7 103 rfl) rfl
theorem q1693 : (Jvm.Cond.instanceMethod ({ cls := "ArmsHouseModel", name := "<init>", desc := "()V" } : Jvm.MethodName)) ∈ lw_all := lw_g (lw_at lw_m7 104 rfl) rfl
theorem q1694 : (Jvm.Cond.code ({ cls := "ArmsHouseModel", name := "<init>", desc := "()V" } : Jvm.MethodName) prog_20_method_14_code (1 : Nat) (Option.none : Option Jvm.ClassFile.FieldType)) ∈ lw_all := lw_g (lw_at lw_m7 105 rfl) rfl
theorem q1695 : (Jvm.Cond.methodLink "ArmsHouseModel" (31 : Nat) ({ cls := "java/lang/Object", name := "<init>", desc := "()V" } : Jvm.MethodName)) ∈ lw_all := lw_g (lw_at lw_m7 106 rfl) rfl
theorem q1696 : (Jvm.Cond.constantLong "ArmsHouseModel" (144 : Nat) (423 : Int64)) ∈ lw_all := lw_g (lw_at lw_m7 107 rfl) rfl
theorem q1697 : (Jvm.Cond.constantLong "ArmsHouseModel" (146 : Nat) (24056669 : Int64)) ∈ lw_all := lw_g (lw_at lw_m7 108 rfl) rfl
theorem q1698 : (Jvm.Cond.constantLong "ArmsHouseModel" (148 : Nat) (4142332 : Int64)) ∈ lw_all := lw_g (lw_at lw_m7 109 rfl) rfl
theorem q1699 : (Jvm.Cond.constantLong "ArmsHouseModel" (150 : Nat) (1058999 : Int64)) ∈ lw_all := lw_g (lw_at lw_m7 110 rfl) rfl
theorem q1700 : (Jvm.Cond.constantLong "ArmsHouseModel" (152 : Nat) (10118849 : Int64)) ∈ lw_all := lw_g (lw_at lw_m7 111 rfl) rfl
theorem q1701 : (Jvm.Cond.constantLong "ArmsHouseModel" (154 : Nat) (437177 : Int64)) ∈ lw_all := lw_g (lw_at lw_m7 112 rfl) rfl
theorem q1702 : (Jvm.Cond.constantLong "ArmsHouseModel" (156 : Nat) (6509951537 : Int64)) ∈ lw_all := lw_g (lw_at lw_m7 113 rfl) rfl
theorem q1703 : (Jvm.Cond.constantLong "ArmsHouseModel" (158 : Nat) (81573296 : Int64)) ∈ lw_all := lw_g (lw_at lw_m7 114 rfl) rfl
theorem q1704 : (Jvm.Cond.constantLong "ArmsHouseModel" (160 : Nat) (434016 : Int64)) ∈ lw_all := lw_g (lw_at lw_m7 115 rfl) rfl
theorem q1705 : (Jvm.Cond.constantLong "ArmsHouseModel" (162 : Nat) (7200241293 : Int64)) ∈ lw_all := lw_g (lw_at lw_m7 116 rfl) rfl
theorem q1706 : (Jvm.Cond.constantLong "ArmsHouseModel" (164 : Nat) (4878205754 : Int64)) ∈ lw_all := lw_g (lw_at lw_m7 117 rfl) rfl
theorem q1707 : (Jvm.Cond.constantLong "ArmsHouseModel" (166 : Nat) (33725882 : Int64)) ∈ lw_all := lw_g (lw_at lw_m7 118 rfl) rfl
theorem q1708 : (Jvm.Cond.constantLong "ArmsHouseModel" (168 : Nat) (38436533417 : Int64)) ∈ lw_all := lw_g (lw_at lw_m7 119 rfl) rfl
theorem q1709 : (Jvm.Cond.constantLong "ArmsHouseModel" (170 : Nat) (197941151 : Int64)) ∈ lw_all := lw_g (lw_at lw_m7 120 rfl) rfl
theorem q1710 : (Jvm.Cond.constantLong "ArmsHouseModel" (172 : Nat) (10940985 : Int64)) ∈ lw_all := lw_g (lw_at lw_m7 121 rfl) rfl
theorem q1711 : (Jvm.Cond.constantLong "ArmsHouseModel" (174 : Nat) (365747 : Int64)) ∈ lw_all := lw_g (lw_at lw_m7 122 rfl) rfl
theorem q1712 : (Jvm.Cond.constantLong "ArmsHouseModel" (176 : Nat) (406922 : Int64)) ∈ lw_all := lw_g (lw_at lw_m7 123 rfl) rfl
theorem q1713 : (Jvm.Cond.constantLong "ArmsHouseModel" (178 : Nat) (8179 : Int64)) ∈ lw_all := lw_g (lw_at lw_m7 124 rfl) rfl
theorem q1714 : (Jvm.Cond.constantLong "ArmsHouseModel" (180 : Nat) (2682320 : Int64)) ∈ lw_all := lw_g (lw_at lw_m7 125 rfl) rfl
theorem q1715 : (Jvm.Cond.constantLong "ArmsHouseModel" (182 : Nat) (243176 : Int64)) ∈ lw_all := lw_g (lw_at lw_m7 126 rfl) rfl
theorem q1716 : (Jvm.Cond.constantLong "ArmsHouseModel" (184 : Nat) (125180 : Int64)) ∈ lw_all := lw_g (lw_at lw_m7 127 rfl) rfl
theorem q1717 : (Jvm.Cond.constantLong "ArmsHouseModel" (186 : Nat) (6995142497 : Int64)) ∈ lw_all := lw_g (lw_at lw_m7 128 rfl) rfl
theorem q1718 : (Jvm.Cond.constantLong "ArmsHouseModel" (188 : Nat) (6223549214 : Int64)) ∈ lw_all := lw_g (lw_at lw_m7 129 rfl) rfl
theorem q1719 : (Jvm.Cond.constantLong "ArmsHouseModel" (190 : Nat) (3015245 : Int64)) ∈ lw_all := lw_g (lw_at lw_m7 130 rfl) rfl
theorem q1720 : (Jvm.Cond.constantLong "ArmsHouseModel" (192 : Nat) (99885767845 : Int64)) ∈ lw_all := lw_g (lw_at lw_m7 131 rfl) rfl
theorem q1721 : (Jvm.Cond.constantLong "ArmsHouseModel" (194 : Nat) (315986 : Int64)) ∈ lw_all := lw_g (lw_at lw_m7 132 rfl) rfl
theorem q1722 : (Jvm.Cond.constantLong "ArmsHouseModel" (196 : Nat) (122275 : Int64)) ∈ lw_all := lw_g (lw_at lw_m7 133 rfl) rfl
theorem q1723 : (Jvm.Cond.constantLong "ArmsHouseModel" (198 : Nat) (43393 : Int64)) ∈ lw_all := lw_g (lw_at lw_m7 134 rfl) rfl
theorem q1724 : (Jvm.Cond.constantLong "ArmsHouseModel" (200 : Nat) (1280156495 : Int64)) ∈ lw_all := lw_g (lw_at lw_m7 135 rfl) rfl
theorem q1725 : (Jvm.Cond.constantLong "ArmsHouseModel" (202 : Nat) (7382116202 : Int64)) ∈ lw_all := lw_g (lw_at lw_m7 136 rfl) rfl
theorem q1726 : (Jvm.Cond.constantLong "ArmsHouseModel" (204 : Nat) (1960084 : Int64)) ∈ lw_all := lw_g (lw_at lw_m7 137 rfl) rfl
theorem q1727 : (Jvm.Cond.constantLong "ArmsHouseModel" (206 : Nat) (1758489 : Int64)) ∈ lw_all := lw_g (lw_at lw_m7 138 rfl) rfl
theorem q1728 : (Jvm.Cond.constantLong "ArmsHouseModel" (208 : Nat) (999735053 : Int64)) ∈ lw_all := lw_g (lw_at lw_m7 139 rfl) rfl
theorem q1729 : (Jvm.Cond.constantLong "ArmsHouseModel" (210 : Nat) (40613 : Int64)) ∈ lw_all := lw_g (lw_at lw_m7 140 rfl) rfl
theorem q1730 : (Jvm.Cond.constantLong "ArmsHouseModel" (212 : Nat) (60539958 : Int64)) ∈ lw_all := lw_g (lw_at lw_m7 141 rfl) rfl
theorem q1731 : (Jvm.Cond.constantLong "ArmsHouseModel" (214 : Nat) (202439551635 : Int64)) ∈ lw_all := lw_g (lw_at lw_m7 142 rfl) rfl
theorem q1732 : (Jvm.Cond.constantLong "ArmsHouseModel" (216 : Nat) (6415353 : Int64)) ∈ lw_all := lw_g (lw_at lw_m7 143 rfl) rfl
theorem q1733 : (Jvm.Cond.constantLong "ArmsHouseModel" (218 : Nat) (4085899 : Int64)) ∈ lw_all := lw_g (lw_at lw_m7 144 rfl) rfl
theorem q1734 : (Jvm.Cond.constantLong "ArmsHouseModel" (220 : Nat) (3379448 : Int64)) ∈ lw_all := lw_g (lw_at lw_m7 145 rfl) rfl
theorem q1735 : (Jvm.Cond.constantLong "ArmsHouseModel" (222 : Nat) (275356804 : Int64)) ∈ lw_all := lw_g (lw_at lw_m7 146 rfl) rfl
theorem q1736 : (Jvm.Cond.constantLong "ArmsHouseModel" (224 : Nat) (10816274 : Int64)) ∈ lw_all := lw_g (lw_at lw_m7 147 rfl) rfl
theorem q1737 : (Jvm.Cond.constantLong "ArmsHouseModel" (226 : Nat) (257011 : Int64)) ∈ lw_all := lw_g (lw_at lw_m7 148 rfl) rfl
theorem q1738 : (Jvm.Cond.constantLong "ArmsHouseModel" (228 : Nat) (10793230 : Int64)) ∈ lw_all := lw_g (lw_at lw_m7 149 rfl) rfl
theorem q1739 : (Jvm.Cond.constantLong "ArmsHouseModel" (230 : Nat) (163941322246 : Int64)) ∈ lw_all := lw_g (lw_at lw_m7 150 rfl) rfl
theorem q1740 : (Jvm.Cond.constantLong "ArmsHouseModel" (232 : Nat) (223456 : Int64)) ∈ lw_all := lw_g (lw_at lw_m7 151 rfl) rfl
theorem q1741 : (Jvm.Cond.constantLong "ArmsHouseModel" (234 : Nat) (316163 : Int64)) ∈ lw_all := lw_g (lw_at lw_m7 152 rfl) rfl
theorem q1742 : (Jvm.Cond.methodLink "ArmsHouseModel" (236 : Nat) ({ cls := "ArmsHouseModel", name := "rankAll", desc := "()V" } : Jvm.MethodName)) ∈ lw_all := lw_g (lw_at lw_m7 153 rfl) rfl
theorem q1744 : (Jvm.Cond.instanceMethod ({ cls := "ArmsHouseModel", name := "rankAll", desc := "()V" } : Jvm.MethodName)) ∈ lw_all := lw_g (lw_at lw_m7 155 rfl) rfl
theorem q1745 : (Jvm.Cond.code ({ cls := "ArmsHouseModel", name := "rankAll", desc := "()V" } : Jvm.MethodName) prog_20_method_135_code (2 : Nat) (Option.none : Option Jvm.ClassFile.FieldType)) ∈ lw_all := lw_g (lw_at lw_m7 156 rfl) rfl
theorem q1746 : (Jvm.Cond.methodLink "ArmsHouseModel" (688 : Nat) ({ cls := "ArmsHouseModel", name := "make", desc := "(I)V" } : Jvm.MethodName)) ∈ lw_all := lw_g (lw_at lw_m7 157 rfl) rfl
theorem q1748 : (Jvm.Cond.instanceMethod ({ cls := "ArmsHouseModel", name := "make", desc := "(I)V" } : Jvm.MethodName)) ∈ lw_all := lw_g (lw_at lw_m7 159 rfl) rfl
theorem q1749 : (Jvm.Cond.code ({ cls := "ArmsHouseModel", name := "make", desc := "(I)V" } : Jvm.MethodName) prog_20_method_134_code (7 : Nat) (Option.none : Option Jvm.ClassFile.FieldType)) ∈ lw_all := lw_g (lw_at lw_m7 160 rfl) rfl
theorem q1750 : (Jvm.Cond.methodLink "ArmsHouseModel" (380 : Nat) ({ cls := "ArmsHouseModel", name := "blankAll", desc := "(I)V" } : Jvm.MethodName)) ∈ lw_all := lw_g (lw_at lw_m7 161 rfl) rfl
theorem q1752 : (Jvm.Cond.instanceMethod ({ cls := "ArmsHouseModel", name := "blankAll", desc := "(I)V" } : Jvm.MethodName)) ∈ lw_all := lw_g (lw_at lw_m7 163 rfl) rfl
theorem q1753 : (Jvm.Cond.code ({ cls := "ArmsHouseModel", name := "blankAll", desc := "(I)V" } : Jvm.MethodName) prog_20_method_9_code (3 : Nat) (Option.none : Option Jvm.ClassFile.FieldType)) ∈ lw_all := lw_g (lw_at lw_m7 164 rfl) rfl
theorem q1754 : (Jvm.Cond.methodLink "ArmsHouseModel" (15 : Nat) ({ cls := "ArmsHouseModel", name := "blank", desc := "(II)V" } : Jvm.MethodName)) ∈ lw_all := lw_g (lw_at lw_m7 165 rfl) rfl
theorem q1756 : (Jvm.Cond.instanceMethod ({ cls := "ArmsHouseModel", name := "blank", desc := "(II)V" } : Jvm.MethodName)) ∈ lw_all := lw_g (lw_at lw_m7 167 rfl) rfl
theorem q1757 : (Jvm.Cond.code ({ cls := "ArmsHouseModel", name := "blank", desc := "(II)V" } : Jvm.MethodName) prog_20_method_8_code (4 : Nat) (Option.none : Option Jvm.ClassFile.FieldType)) ∈ lw_all := lw_g (lw_at lw_m7 168 rfl) rfl
theorem q1758 : (Jvm.Cond.methodLink "ArmsHouseModel" (11 : Nat) ({ cls := "ArmsHouseModel", name := "setLayer", desc := "(IIII)V" } : Jvm.MethodName)) ∈ lw_all := lw_g (lw_at lw_m7 169 rfl) rfl
theorem q1760 : (Jvm.Cond.instanceMethod ({ cls := "ArmsHouseModel", name := "setLayer", desc := "(IIII)V" } : Jvm.MethodName)) ∈ lw_all := lw_g (lw_at lw_m7 171 rfl) rfl
theorem q1761 : (Jvm.Cond.code ({ cls := "ArmsHouseModel", name := "setLayer", desc := "(IIII)V" } : Jvm.MethodName) prog_20_method_4_code (5 : Nat) (Option.none : Option Jvm.ClassFile.FieldType)) ∈ lw_all := lw_g (lw_at lw_m7 172 rfl) rfl
theorem q1762 : (Jvm.Cond.methodLink "ArmsHouseModel" (449 : Nat) ({ cls := "ArmsHouseModel", name := "breachOf", desc := "(II)I" } : Jvm.MethodName)) ∈ lw_all := lw_g (lw_at lw_m7 173 rfl) rfl
theorem q1764 : (Jvm.Cond.instanceMethod ({ cls := "ArmsHouseModel", name := "breachOf", desc := "(II)I" } : Jvm.MethodName)) ∈ lw_all := lw_g (lw_at lw_m7 175 rfl) rfl
theorem q1765 : (Jvm.Cond.code ({ cls := "ArmsHouseModel", name := "breachOf", desc := "(II)I" } : Jvm.MethodName) prog_20_method_58_code (6 : Nat) (Option.some Jvm.ClassFile.FieldType.int)) ∈ lw_all := lw_g (lw_at lw_m7 176 rfl) rfl
theorem q1766 : (Jvm.Cond.methodLink "ArmsHouseModel" (396 : Nat) ({ cls := "ArmsHouseModel", name := "tell", desc := "(II)I" } : Jvm.MethodName)) ∈ lw_all := lw_g (lw_at lw_m7 177 rfl) rfl
theorem q1768 : (Jvm.Cond.instanceMethod ({ cls := "ArmsHouseModel", name := "tell", desc := "(II)I" } : Jvm.MethodName)) ∈ lw_all := lw_g (lw_at lw_m7 179 rfl) rfl
theorem q1769 : (Jvm.Cond.code ({ cls := "ArmsHouseModel", name := "tell", desc := "(II)I" } : Jvm.MethodName) prog_20_method_2_code (3 : Nat) (Option.some Jvm.ClassFile.FieldType.int)) ∈ lw_all := lw_g (lw_at lw_m7 180 rfl) rfl
theorem q1770 : (Jvm.Cond.methodLink "ArmsHouseModel" (445 : Nat) ({ cls := "ArmsHouseModel", name := "isBreach", desc := "(III)Z" } : Jvm.MethodName)) ∈ lw_all := lw_g (lw_at lw_m7 181 rfl) rfl
theorem q1772 : (Jvm.Cond.instanceMethod ({ cls := "ArmsHouseModel", name := "isBreach", desc := "(III)Z" } : Jvm.MethodName)) ∈ lw_all := lw_g (lw_at lw_m7 183 rfl) rfl
theorem q1773 : (Jvm.Cond.code ({ cls := "ArmsHouseModel", name := "isBreach", desc := "(III)Z" } : Jvm.MethodName) prog_20_method_57_code (8 : Nat) (Option.some Jvm.ClassFile.FieldType.boolean)) ∈ lw_all := lw_g (lw_at lw_m7 184 rfl) rfl
theorem q1774 : (Jvm.Cond.methodLink "ArmsHouseModel" (392 : Nat) ({ cls := "ArmsHouseModel", name := "ofLayer", desc := "(III)I" } : Jvm.MethodName)) ∈ lw_all := lw_g (lw_at lw_m7 185 rfl) rfl
theorem q1776 : (Jvm.Cond.instanceMethod ({ cls := "ArmsHouseModel", name := "ofLayer", desc := "(III)I" } : Jvm.MethodName)) ∈ lw_all := lw_g (lw_at lw_m7 187 rfl) rfl
theorem q1777 : (Jvm.Cond.code ({ cls := "ArmsHouseModel", name := "ofLayer", desc := "(III)I" } : Jvm.MethodName) prog_20_method_3_code (4 : Nat) (Option.some Jvm.ClassFile.FieldType.int)) ∈ lw_all := lw_g (lw_at lw_m7 188 rfl) rfl
theorem q1778 : (Jvm.Cond.methodLink "ArmsHouseModel" (442 : Nat) ({ cls := "ArmsHouseModel", name := "fieldKind", desc := "(I)I" } : Jvm.MethodName)) ∈ lw_all := lw_g (lw_at lw_m7 189 rfl) rfl
theorem q1780 : (Jvm.Cond.instanceMethod ({ cls := "ArmsHouseModel", name := "fieldKind", desc := "(I)I" } : Jvm.MethodName)) ∈ lw_all := lw_g (lw_at lw_m7 191 rfl) rfl
theorem q1781 : (Jvm.Cond.code ({ cls := "ArmsHouseModel", name := "fieldKind", desc := "(I)I" } : Jvm.MethodName) prog_20_method_56_code (3 : Nat) (Option.some Jvm.ClassFile.FieldType.int)) ∈ lw_all := lw_g (lw_at lw_m7 192 rfl) rfl
theorem q1782 : (Jvm.Cond.methodLink "ArmsHouseModel" (439 : Nat) ({ cls := "ArmsHouseModel", name := "kindOf", desc := "(I)I" } : Jvm.MethodName)) ∈ lw_all := lw_g (lw_at lw_m7 193 rfl) rfl
theorem q1783 : (Jvm.Cond.static ({ cls := "ArmsHouseModel", name := "kindOf", desc := "(I)I" } : Jvm.MethodName)) ∈ lw_all := lw_g (lw_at lw_m7 194 rfl) rfl
theorem q1784 : (Jvm.Cond.code ({ cls := "ArmsHouseModel", name := "kindOf", desc := "(I)I" } : Jvm.MethodName) prog_20_method_55_code (1 : Nat) (Option.some Jvm.ClassFile.FieldType.int)) ∈ lw_all := lw_g (lw_at lw_m7 195 rfl) rfl
theorem q1785 : (Jvm.Cond.fieldLink "ArmsHouseModel" (1 : Nat) "ArmsHouseModel" "arms" "[I") ∈ lw_all := lw_g (lw_at lw_m7 196 rfl) rfl
theorem q1786 : (Jvm.Cond.fieldLink "ArmsHouseModel" (7 : Nat) "ArmsHouseModel" "many" "I") ∈ lw_all := lw_g (lw_at lw_m7 197 rfl) rfl
theorem q1787 : (Jvm.Cond.fieldLink "ArmsHouseModel" (22 : Nat) "ArmsHouseModel" "tape" "[I") ∈ lw_all := lw_g (lw_at lw_m7 198 rfl) rfl
theorem q1788 : (Jvm.Cond.fieldLink "ArmsHouseModel" (19 : Nat) "ArmsHouseModel" "taped" "I") ∈ lw_all := lw_g (lw_at lw_m7 199 rfl) rfl
theorem q1789 : (Jvm.Cond.fieldLink "ArmsHouseModel" (28 : Nat) "ArmsHouseModel" "out" "[I") ∈ lw_all := lw_g (lw_at lw_m7 200 rfl) rfl
theorem q1790 : (Jvm.Cond.fieldLink "ArmsHouseModel" (25 : Nat) "ArmsHouseModel" "outSize" "I") ∈ lw_all := lw_g (lw_at lw_m7 201 rfl) rfl
theorem q1791 : (Jvm.Cond.fieldLink "ArmsHouseModel" (37 : Nat) "ArmsHouseModel" "tinctures" "[J") ∈ lw_all := lw_g (lw_at lw_m7 202 rfl) rfl
theorem q1792 : (Jvm.Cond.fieldLink "ArmsHouseModel" (41 : Nat) "ArmsHouseModel" "things" "[J") ∈ lw_all := lw_g (lw_at lw_m7 203 rfl) rfl
theorem q1793 : (Jvm.Cond.fieldLink "ArmsHouseModel" (44 : Nat) "ArmsHouseModel" "attitudes" "[J") ∈ lw_all := lw_g (lw_at lw_m7 204 rfl) rfl
theorem q1794 : (Jvm.Cond.fieldLink "ArmsHouseModel" (47 : Nat) "ArmsHouseModel" "ordinaries" "[J") ∈ lw_all := lw_g (lw_at lw_m7 205 rfl) rfl
theorem q1795 : (Jvm.Cond.fieldLink "ArmsHouseModel" (50 : Nat) "ArmsHouseModel" "parts" "[J") ∈ lw_all := lw_g (lw_at lw_m7 206 rfl) rfl
theorem q1796 : (Jvm.Cond.fieldLink "ArmsHouseModel" (53 : Nat) "ArmsHouseModel" "functions" "[J") ∈ lw_all := lw_g (lw_at lw_m7 207 rfl) rfl
theorem q1797 : (Jvm.Cond.fieldLink "ArmsHouseModel" (239 : Nat) "ArmsHouseModel" "pos" "I") ∈ lw_all := lw_g (lw_at lw_m7 208 rfl) rfl
theorem q1798 : (Jvm.Cond.fieldLink "ArmsHouseModel" (249 : Nat) "ArmsHouseModel" "kind" "I") ∈ lw_all := lw_g (lw_at lw_m7 209 rfl) rfl
theorem q1799 : (Jvm.Cond.fieldLink "ArmsHouseModel" (242 : Nat) "ArmsHouseModel" "place" "I") ∈ lw_all := lw_g (lw_at lw_m7 210 rfl) rfl
theorem q1800 : (Jvm.Cond.fieldLink "ArmsHouseModel" (245 : Nat) "ArmsHouseModel" "value" "J") ∈ lw_all := lw_g (lw_at lw_m7 211 rfl) rfl
theorem q1801 : (Jvm.Cond.fieldLink "ArmsHouseModel" (267 : Nat) "ArmsHouseModel" "wrong" "Z") ∈ lw_all := lw_g (lw_at lw_m7 212 rfl) rfl
theorem q1802 : (Jvm.Cond.fieldLink "ArmsHouseModel" (271 : Nat) "ArmsHouseModel" "fault" "I") ∈ lw_all := lw_g (lw_at lw_m7 213 rfl) rfl
theorem q1803 : (Jvm.Cond.fieldLink "ArmsHouseModel" (277 : Nat) "ArmsHouseModel" "wrongAt" "I") ∈ lw_all := lw_g (lw_at lw_m7 214 rfl) rfl
theorem q1804 : (Jvm.Cond.fieldLink "ArmsHouseModel" (357 : Nat) "ArmsHouseModel" "hasChief" "Z") ∈ lw_all := lw_g (lw_at lw_m7 215 rfl) rfl
theorem q1805 : (Jvm.Cond.fieldLink "ArmsHouseModel" (360 : Nat) "ArmsHouseModel" "hasBordure" "Z") ∈ lw_all := lw_g (lw_at lw_m7 216 rfl) rfl
theorem q1806 : (Jvm.Cond.fieldLink "ArmsHouseModel" (56 : Nat) "ArmsHouseModel" "dotOf" "[I") ∈ lw_all := lw_g (lw_at lw_m7 217 rfl) rfl
theorem q1807 : (Jvm.Cond.fieldLink "ArmsHouseModel" (59 : Nat) "ArmsHouseModel" "sizes" "[I") ∈ lw_all := lw_g (lw_at lw_m7 218 rfl) rfl
theorem q1808 : (Jvm.Cond.fieldLink "ArmsHouseModel" (62 : Nat) "ArmsHouseModel" "drawn" "I") ∈ lw_all := lw_g (lw_at lw_m7 219 rfl) rfl
theorem q1809 : (Jvm.Cond.fieldLink "ArmsHouseModel" (65 : Nat) "ArmsHouseModel" "memberX" "[I") ∈ lw_all := lw_g (lw_at lw_m7 220 rfl) rfl
theorem q1810 : (Jvm.Cond.fieldLink "ArmsHouseModel" (68 : Nat) "ArmsHouseModel" "memberY" "[I") ∈ lw_all := lw_g (lw_at lw_m7 221 rfl) rfl
theorem q1811 : (Jvm.Cond.fieldLink "ArmsHouseModel" (71 : Nat) "ArmsHouseModel" "marks" "[I") ∈ lw_all := lw_g (lw_at lw_m7 222 rfl) rfl
theorem q1812 : (Jvm.Cond.fieldLink "ArmsHouseModel" (475 : Nat) "ArmsHouseModel" "marking" "I") ∈ lw_all := lw_g (lw_at lw_m7 223 rfl) rfl
theorem q1813 : (Jvm.Cond.fieldLink "ArmsHouseModel" (501 : Nat) "ArmsHouseModel" "persons" "I") ∈ lw_all := lw_g (lw_at lw_m7 224 rfl) rfl
theorem q1814 : (Jvm.Cond.fieldLink "ArmsHouseModel" (74 : Nat) "ArmsHouseModel" "woman" "[Z") ∈ lw_all := lw_g (lw_at lw_m7 225 rfl) rfl
theorem q1815 : (Jvm.Cond.fieldLink "ArmsHouseModel" (78 : Nat) "ArmsHouseModel" "fatherOf" "[I") ∈ lw_all := lw_g (lw_at lw_m7 226 rfl) rfl
theorem q1816 : (Jvm.Cond.fieldLink "ArmsHouseModel" (81 : Nat) "ArmsHouseModel" "motherOf" "[I") ∈ lw_all := lw_g (lw_at lw_m7 227 rfl) rfl
theorem q1817 : (Jvm.Cond.fieldLink "ArmsHouseModel" (84 : Nat) "ArmsHouseModel" "bornOn" "[I") ∈ lw_all := lw_g (lw_at lw_m7 228 rfl) rfl
theorem q1818 : (Jvm.Cond.fieldLink "ArmsHouseModel" (87 : Nat) "ArmsHouseModel" "diedOn" "[I") ∈ lw_all := lw_g (lw_at lw_m7 229 rfl) rfl
theorem q1819 : (Jvm.Cond.fieldLink "ArmsHouseModel" (90 : Nat) "ArmsHouseModel" "armsOf" "[I") ∈ lw_all := lw_g (lw_at lw_m7 230 rfl) rfl
theorem q1820 : (Jvm.Cond.fieldLink "ArmsHouseModel" (93 : Nat) "ArmsHouseModel" "quarters" "[I") ∈ lw_all := lw_g (lw_at lw_m7 231 rfl) rfl
theorem q1821 : (Jvm.Cond.fieldLink "ArmsHouseModel" (510 : Nat) "ArmsHouseModel" "quarterMany" "I") ∈ lw_all := lw_g (lw_at lw_m7 232 rfl) rfl
theorem q1822 : (Jvm.Cond.fieldLink "ArmsHouseModel" (96 : Nat) "ArmsHouseModel" "asked" "[Z") ∈ lw_all := lw_g (lw_at lw_m7 233 rfl) rfl
theorem q1823 : (Jvm.Cond.fieldLink "ArmsHouseModel" (99 : Nat) "ArmsHouseModel" "firstQuarters" "[I") ∈ lw_all := lw_g (lw_at lw_m7 234 rfl) rfl
theorem q1824 : (Jvm.Cond.fieldLink "ArmsHouseModel" (531 : Nat) "ArmsHouseModel" "clashMany" "I") ∈ lw_all := lw_g (lw_at lw_m7 235 rfl) rfl
theorem q1825 : (Jvm.Cond.fieldLink "ArmsHouseModel" (540 : Nat) "ArmsHouseModel" "entries" "I") ∈ lw_all := lw_g (lw_at lw_m7 236 rfl) rfl
theorem q1826 : (Jvm.Cond.fieldLink "ArmsHouseModel" (102 : Nat) "ArmsHouseModel" "entered" "[I") ∈ lw_all := lw_g (lw_at lw_m7 237 rfl) rfl
theorem q1827 : (Jvm.Cond.fieldLink "ArmsHouseModel" (105 : Nat) "ArmsHouseModel" "fromDay" "[I") ∈ lw_all := lw_g (lw_at lw_m7 238 rfl) rfl
theorem q1828 : (Jvm.Cond.fieldLink "ArmsHouseModel" (108 : Nat) "ArmsHouseModel" "struckOn" "[I") ∈ lw_all := lw_g (lw_at lw_m7 239 rfl) rfl
theorem q1829 : (Jvm.Cond.fieldLink "ArmsHouseModel" (111 : Nat) "ArmsHouseModel" "spots" "[I") ∈ lw_all := lw_g (lw_at lw_m8 0 rfl) rfl
theorem q1830 : (Jvm.Cond.fieldLink "ArmsHouseModel" (558 : Nat) "ArmsHouseModel" "spotMany" "I") ∈ lw_all := lw_g (lw_at lw_m8 1 rfl) rfl
theorem q1831 : (Jvm.Cond.fieldLink "ArmsHouseModel" (643 : Nat) "ArmsHouseModel" "clauses" "I") ∈ lw_all := lw_g (lw_at lw_m8 2 rfl) rfl
theorem q1832 : (Jvm.Cond.fieldLink "ArmsHouseModel" (114 : Nat) "ArmsHouseModel" "rootOf" "[I") ∈ lw_all := lw_g (lw_at lw_m8 3 rfl) rfl
theorem q1833 : (Jvm.Cond.fieldLink "ArmsHouseModel" (117 : Nat) "ArmsHouseModel" "firstToken" "[I") ∈ lw_all := lw_g (lw_at lw_m8 4 rfl) rfl
theorem q1834 : (Jvm.Cond.fieldLink "ArmsHouseModel" (120 : Nat) "ArmsHouseModel" "partKind" "[I") ∈ lw_all := lw_g (lw_at lw_m8 5 rfl) rfl
theorem q1835 : (Jvm.Cond.fieldLink "ArmsHouseModel" (123 : Nat) "ArmsHouseModel" "partOne" "[I") ∈ lw_all := lw_g (lw_at lw_m8 6 rfl) rfl
theorem q1836 : (Jvm.Cond.fieldLink "ArmsHouseModel" (126 : Nat) "ArmsHouseModel" "partTwo" "[I") ∈ lw_all := lw_g (lw_at lw_m8 7 rfl) rfl
theorem q1837 : (Jvm.Cond.fieldLink "ArmsHouseModel" (129 : Nat) "ArmsHouseModel" "partPlace" "[I") ∈ lw_all := lw_g (lw_at lw_m8 8 rfl) rfl
theorem q1838 : (Jvm.Cond.fieldLink "ArmsHouseModel" (573 : Nat) "ArmsHouseModel" "partMany" "I") ∈ lw_all := lw_g (lw_at lw_m8 9 rfl) rfl
theorem q1839 : (Jvm.Cond.fieldLink "ArmsHouseModel" (570 : Nat) "ArmsHouseModel" "partBase" "I") ∈ lw_all := lw_g (lw_at lw_m8 10 rfl) rfl
theorem q1840 : (Jvm.Cond.fieldLink "ArmsHouseModel" (597 : Nat) "ArmsHouseModel" "nested" "I") ∈ lw_all := lw_g (lw_at lw_m8 11 rfl) rfl
theorem q1841 : (Jvm.Cond.fieldLink "ArmsHouseModel" (576 : Nat) "ArmsHouseModel" "counted" "I") ∈ lw_all := lw_g (lw_at lw_m8 12 rfl) rfl
theorem q1842 : (Jvm.Cond.fieldLink "ArmsHouseModel" (652 : Nat) "ArmsHouseModel" "sortNow" "I") ∈ lw_all := lw_g (lw_at lw_m8 13 rfl) rfl
theorem q1843 : (Jvm.Cond.fieldLink "ArmsHouseModel" (655 : Nat) "ArmsHouseModel" "now" "J") ∈ lw_all := lw_g (lw_at lw_m8 14 rfl) rfl
theorem q1844 : (Jvm.Cond.fieldLink "ArmsHouseModel" (646 : Nat) "ArmsHouseModel" "failed" "I") ∈ lw_all := lw_g (lw_at lw_m8 15 rfl) rfl
theorem q1845 : (Jvm.Cond.fieldLink "ArmsHouseModel" (649 : Nat) "ArmsHouseModel" "failedPlace" "I") ∈ lw_all := lw_g (lw_at lw_m8 16 rfl) rfl
theorem q1846 : (Jvm.Cond.fieldLink "ArmsHouseModel" (664 : Nat) "ArmsHouseModel" "about" "I") ∈ lw_all := lw_g (lw_at lw_m8 17 rfl) rfl
theorem q1847 : (Jvm.Cond.fieldLink "ArmsHouseModel" (685 : Nat) "ArmsHouseModel" "toldWhole" "J") ∈ lw_all := lw_g (lw_at lw_m8 18 rfl) rfl
theorem q1848 : (Jvm.Cond.fieldLink "ArmsHouseModel" (132 : Nat) "ArmsHouseModel" "toldPlace" "I") ∈ lw_all := lw_g (lw_at lw_m8 19 rfl) rfl
theorem q1849 : (Jvm.Cond.fieldLink "ArmsHouseModel" (135 : Nat) "ArmsHouseModel" "placeOf" "[I") ∈ lw_all := lw_g (lw_at lw_m8 20 rfl) rfl
theorem q1850 : (Jvm.Cond.fieldLink "ArmsHouseModel" (138 : Nat) "ArmsHouseModel" "rankOf" "[I") ∈ lw_all := lw_g (lw_at lw_m8 21 rfl) rfl
theorem q1851 : (Jvm.Cond.fieldLink "ArmsHouseModel" (691 : Nat) "ArmsHouseModel" "clean" "I") ∈ lw_all := lw_g (lw_at lw_m8 22 rfl) rfl
theorem q1852 : (Jvm.Cond.fieldLink "ArmsHouseModel" (141 : Nat) "ArmsHouseModel" "leastRank" "I") ∈ lw_all := lw_g (lw_at lw_m8 23 rfl) rfl
theorem q1853 : (Jvm.Cond.laysFinal "ArmsHouseModel" "ArmsHouseModel" "arms" "[I") ∈ lw_all := lw_g (lw_at lw_m8 24 rfl) rfl
theorem q1855 : (Jvm.Cond.lays "ArmsHouseModel" "ArmsHouseModel" "many" "I") ∈ lw_all := lw_g (lw_at lw_m8 26 rfl) rfl
theorem q1857 : (Jvm.Cond.laysFinal "ArmsHouseModel" "ArmsHouseModel" "tape" "[I") ∈ lw_all := lw_g (lw_at lw_m8 28 rfl) rfl
theorem q1859 : (Jvm.Cond.lays "ArmsHouseModel" "ArmsHouseModel" "taped" "I") ∈ lw_all := lw_g (lw_at lw_m8 30 rfl) rfl
theorem q1861 : (Jvm.Cond.laysFinal "ArmsHouseModel" "ArmsHouseModel" "out" "[I") ∈ lw_all := lw_g (lw_at lw_m8 32 rfl) rfl
theorem q1863 : (Jvm.Cond.lays "ArmsHouseModel" "ArmsHouseModel" "outSize" "I") ∈ lw_all := lw_g (lw_at lw_m8 34 rfl) rfl
theorem q1865 : (Jvm.Cond.laysFinal "ArmsHouseModel" "ArmsHouseModel" "tinctures" "[J") ∈ lw_all := lw_g (lw_at lw_m8 36 rfl) rfl
theorem q1867 : (Jvm.Cond.laysFinal "ArmsHouseModel" "ArmsHouseModel" "things" "[J") ∈ lw_all := lw_g (lw_at lw_m8 38 rfl) rfl
theorem q1869 : (Jvm.Cond.laysFinal "ArmsHouseModel" "ArmsHouseModel" "attitudes" "[J") ∈ lw_all := lw_g (lw_at lw_m8 40 rfl) rfl
theorem q1871 : (Jvm.Cond.laysFinal "ArmsHouseModel" "ArmsHouseModel" "ordinaries" "[J") ∈ lw_all := lw_g (lw_at lw_m8 42 rfl) rfl
theorem q1873 : (Jvm.Cond.laysFinal "ArmsHouseModel" "ArmsHouseModel" "parts" "[J") ∈ lw_all := lw_g (lw_at lw_m8 44 rfl) rfl
theorem q1875 : (Jvm.Cond.laysFinal "ArmsHouseModel" "ArmsHouseModel" "functions" "[J") ∈ lw_all := lw_g (lw_at lw_m8 46 rfl) rfl
theorem q1877 : (Jvm.Cond.lays "ArmsHouseModel" "ArmsHouseModel" "pos" "I") ∈ lw_all := lw_g (lw_at lw_m8 48 rfl) rfl
theorem q1879 : (Jvm.Cond.lays "ArmsHouseModel" "ArmsHouseModel" "kind" "I") ∈ lw_all := lw_g (lw_at lw_m8 50 rfl) rfl
theorem q1881 : (Jvm.Cond.lays "ArmsHouseModel" "ArmsHouseModel" "place" "I") ∈ lw_all := lw_g (lw_at lw_m8 52 rfl) rfl
theorem q1883 : (Jvm.Cond.lays "ArmsHouseModel" "ArmsHouseModel" "value" "J") ∈ lw_all := lw_g (lw_at lw_m8 54 rfl) rfl
theorem q1885 : (Jvm.Cond.lays "ArmsHouseModel" "ArmsHouseModel" "wrong" "Z") ∈ lw_all := lw_g (lw_at lw_m8 56 rfl) rfl
theorem q1887 : (Jvm.Cond.lays "ArmsHouseModel" "ArmsHouseModel" "fault" "I") ∈ lw_all := lw_g (lw_at lw_m8 58 rfl) rfl
theorem q1889 : (Jvm.Cond.lays "ArmsHouseModel" "ArmsHouseModel" "wrongAt" "I") ∈ lw_all := lw_g (lw_at lw_m8 60 rfl) rfl
theorem q1891 : (Jvm.Cond.lays "ArmsHouseModel" "ArmsHouseModel" "hasChief" "Z") ∈ lw_all := lw_g (lw_at lw_m8 62 rfl) rfl
theorem q1893 : (Jvm.Cond.lays "ArmsHouseModel" "ArmsHouseModel" "hasBordure" "Z") ∈ lw_all := lw_g (lw_at lw_m8 64 rfl) rfl
theorem q1895 : (Jvm.Cond.laysFinal "ArmsHouseModel" "ArmsHouseModel" "dotOf" "[I") ∈ lw_all := lw_g (lw_at lw_m8 66 rfl) rfl
theorem q1897 : (Jvm.Cond.laysFinal "ArmsHouseModel" "ArmsHouseModel" "sizes" "[I") ∈ lw_all := lw_g (lw_at lw_m8 68 rfl) rfl
theorem q1899 : (Jvm.Cond.lays "ArmsHouseModel" "ArmsHouseModel" "drawn" "I") ∈ lw_all := lw_g (lw_at lw_m8 70 rfl) rfl
theorem q1901 : (Jvm.Cond.laysFinal "ArmsHouseModel" "ArmsHouseModel" "memberX" "[I") ∈ lw_all := lw_g (lw_at lw_m8 72 rfl) rfl
theorem q1903 : (Jvm.Cond.laysFinal "ArmsHouseModel" "ArmsHouseModel" "memberY" "[I") ∈ lw_all := lw_g (lw_at lw_m8 74 rfl) rfl
theorem q1905 : (Jvm.Cond.laysFinal "ArmsHouseModel" "ArmsHouseModel" "marks" "[I") ∈ lw_all := lw_g (lw_at lw_m8 76 rfl) rfl
theorem q1907 : (Jvm.Cond.lays "ArmsHouseModel" "ArmsHouseModel" "marking" "I") ∈ lw_all := lw_g (lw_at lw_m8 78 rfl) rfl
theorem q1909 : (Jvm.Cond.lays "ArmsHouseModel" "ArmsHouseModel" "persons" "I") ∈ lw_all := lw_g (lw_at lw_m8 80 rfl) rfl
theorem q1911 : (Jvm.Cond.laysFinal "ArmsHouseModel" "ArmsHouseModel" "woman" "[Z") ∈ lw_all := lw_g (lw_at lw_m8 82 rfl) rfl
theorem q1913 : (Jvm.Cond.laysFinal "ArmsHouseModel" "ArmsHouseModel" "fatherOf" "[I") ∈ lw_all := lw_g (lw_at lw_m8 84 rfl) rfl
theorem q1915 : (Jvm.Cond.laysFinal "ArmsHouseModel" "ArmsHouseModel" "motherOf" "[I") ∈ lw_all := lw_g (lw_at lw_m8 86 rfl) rfl
theorem q1917 : (Jvm.Cond.laysFinal "ArmsHouseModel" "ArmsHouseModel" "bornOn" "[I") ∈ lw_all := lw_g (lw_at lw_m8 88 rfl) rfl
theorem q1919 : (Jvm.Cond.laysFinal "ArmsHouseModel" "ArmsHouseModel" "diedOn" "[I") ∈ lw_all := lw_g (lw_at lw_m8 90 rfl) rfl
theorem q1921 : (Jvm.Cond.laysFinal "ArmsHouseModel" "ArmsHouseModel" "armsOf" "[I") ∈ lw_all := lw_g (lw_at lw_m8 92 rfl) rfl
theorem q1923 : (Jvm.Cond.laysFinal "ArmsHouseModel" "ArmsHouseModel" "quarters" "[I") ∈ lw_all := lw_g (lw_at lw_m8 94 rfl) rfl
theorem q1925 : (Jvm.Cond.lays "ArmsHouseModel" "ArmsHouseModel" "quarterMany" "I") ∈ lw_all := lw_g (lw_at lw_m8 96 rfl) rfl
theorem q1927 : (Jvm.Cond.laysFinal "ArmsHouseModel" "ArmsHouseModel" "asked" "[Z") ∈ lw_all := lw_g (lw_at lw_m8 98 rfl) rfl
theorem q1929 : (Jvm.Cond.laysFinal "ArmsHouseModel" "ArmsHouseModel" "firstQuarters" "[I") ∈ lw_all := lw_g (lw_at lw_m8 100 rfl) rfl
theorem q1931 : (Jvm.Cond.lays "ArmsHouseModel" "ArmsHouseModel" "clashMany" "I") ∈ lw_all := lw_g (lw_at lw_m8 102 rfl) rfl
theorem q1933 : (Jvm.Cond.lays "ArmsHouseModel" "ArmsHouseModel" "entries" "I") ∈ lw_all := lw_g (lw_at lw_m8 104 rfl) rfl
theorem q1935 : (Jvm.Cond.laysFinal "ArmsHouseModel" "ArmsHouseModel" "entered" "[I") ∈ lw_all := lw_g (lw_at lw_m8 106 rfl) rfl
theorem q1937 : (Jvm.Cond.laysFinal "ArmsHouseModel" "ArmsHouseModel" "fromDay" "[I") ∈ lw_all := lw_g (lw_at lw_m8 108 rfl) rfl
theorem q1939 : (Jvm.Cond.laysFinal "ArmsHouseModel" "ArmsHouseModel" "struckOn" "[I") ∈ lw_all := lw_g (lw_at lw_m8 110 rfl) rfl
theorem q1941 : (Jvm.Cond.laysFinal "ArmsHouseModel" "ArmsHouseModel" "spots" "[I") ∈ lw_all := lw_g (lw_at lw_m8 112 rfl) rfl
theorem q1943 : (Jvm.Cond.lays "ArmsHouseModel" "ArmsHouseModel" "spotMany" "I") ∈ lw_all := lw_g (lw_at lw_m8 114 rfl) rfl
theorem q1945 : (Jvm.Cond.lays "ArmsHouseModel" "ArmsHouseModel" "clauses" "I") ∈ lw_all := lw_g (lw_at lw_m8 116 rfl) rfl
theorem q1947 : (Jvm.Cond.laysFinal "ArmsHouseModel" "ArmsHouseModel" "rootOf" "[I") ∈ lw_all := lw_g (lw_at lw_m8 118 rfl) rfl
theorem q1949 : (Jvm.Cond.laysFinal "ArmsHouseModel" "ArmsHouseModel" "firstToken" "[I") ∈ lw_all := lw_g (lw_at lw_m8 120 rfl) rfl
theorem q1951 : (Jvm.Cond.laysFinal "ArmsHouseModel" "ArmsHouseModel" "partKind" "[I") ∈ lw_all := lw_g (lw_at lw_m8 122 rfl) rfl
theorem q1953 : (Jvm.Cond.laysFinal "ArmsHouseModel" "ArmsHouseModel" "partOne" "[I") ∈ lw_all := lw_g (lw_at lw_m8 124 rfl) rfl
theorem q1955 : (Jvm.Cond.laysFinal "ArmsHouseModel" "ArmsHouseModel" "partTwo" "[I") ∈ lw_all := lw_g (lw_at lw_m8 126 rfl) rfl
theorem q1957 : (Jvm.Cond.laysFinal "ArmsHouseModel" "ArmsHouseModel" "partPlace" "[I") ∈ lw_all := lw_g (lw_at lw_m8 128 rfl) rfl
theorem q1959 : (Jvm.Cond.lays "ArmsHouseModel" "ArmsHouseModel" "partMany" "I") ∈ lw_all := lw_g (lw_at lw_m8 130 rfl) rfl
theorem q1961 : (Jvm.Cond.lays "ArmsHouseModel" "ArmsHouseModel" "partBase" "I") ∈ lw_all := lw_g (lw_at lw_m8 132 rfl) rfl
theorem q1963 : (Jvm.Cond.lays "ArmsHouseModel" "ArmsHouseModel" "nested" "I") ∈ lw_all := lw_g (lw_at lw_m8 134 rfl) rfl
theorem q1965 : (Jvm.Cond.lays "ArmsHouseModel" "ArmsHouseModel" "counted" "I") ∈ lw_all := lw_g (lw_at lw_m8 136 rfl) rfl
theorem q1967 : (Jvm.Cond.lays "ArmsHouseModel" "ArmsHouseModel" "sortNow" "I") ∈ lw_all := lw_g (lw_at lw_m8 138 rfl) rfl
theorem q1969 : (Jvm.Cond.lays "ArmsHouseModel" "ArmsHouseModel" "now" "J") ∈ lw_all := lw_g (lw_at lw_m8 140 rfl) rfl
theorem q1971 : (Jvm.Cond.lays "ArmsHouseModel" "ArmsHouseModel" "failed" "I") ∈ lw_all := lw_g (lw_at lw_m8 142 rfl) rfl
theorem q1973 : (Jvm.Cond.lays "ArmsHouseModel" "ArmsHouseModel" "failedPlace" "I") ∈ lw_all := lw_g (lw_at lw_m8 144 rfl) rfl
theorem q1975 : (Jvm.Cond.lays "ArmsHouseModel" "ArmsHouseModel" "about" "I") ∈ lw_all := lw_g (lw_at lw_m8 146 rfl) rfl
theorem q1977 : (Jvm.Cond.lays "ArmsHouseModel" "ArmsHouseModel" "toldWhole" "J") ∈ lw_all := lw_g (lw_at lw_m8 148 rfl) rfl
theorem q1979 : (Jvm.Cond.lays "ArmsHouseModel" "ArmsHouseModel" "toldPlace" "I") ∈ lw_all := lw_g (lw_at lw_m8 150 rfl) rfl
theorem q1981 : (Jvm.Cond.laysFinal "ArmsHouseModel" "ArmsHouseModel" "placeOf" "[I") ∈ lw_all := lw_g (lw_at lw_m8 152 rfl) rfl
theorem q1983 : (Jvm.Cond.laysFinal "ArmsHouseModel" "ArmsHouseModel" "rankOf" "[I") ∈ lw_all := lw_g (lw_at lw_m8 154 rfl) rfl
theorem q1985 : (Jvm.Cond.lays "ArmsHouseModel" "ArmsHouseModel" "clean" "I") ∈ lw_all := lw_g (lw_at lw_m8 156 rfl) rfl
theorem q1987 : (Jvm.Cond.lays "ArmsHouseModel" "ArmsHouseModel" "leastRank" "I") ∈ lw_all := lw_g (lw_at lw_m8 158 rfl) rfl
theorem q1990 : (Jvm.Cond.arrayClass Jvm.ClassFile.FieldType.long) ∈ lw_all := lw_g (lw_at lw_m8 161 rfl) rfl
theorem q1991 : (Jvm.Cond.methodLink "ArmsHouseLaw" (37 : Nat) ({ cls := "ArmsHouseModel", name := "blazon", desc := "()I" } : Jvm.MethodName)) ∈ lw_all := lw_g (lw_at lw_m8 162 rfl) rfl
theorem q1992 : (Jvm.Cond.instanceMethod ({ cls := "ArmsHouseModel", name := "blazon", desc := "()I" } : Jvm.MethodName)) ∈ lw_all := lw_g (lw_at lw_m8 163 rfl) rfl
theorem q1993 : (Jvm.Cond.selects "ArmsHouseModel" ({ cls := "ArmsHouseModel", name := "blazon", desc := "()I" } : Jvm.MethodName) ({ cls := "ArmsHouseModel", name := "blazon", desc := "()I" } : Jvm.MethodName)) ∈ lw_all := lw_g (lw_at lw_m8 164 rfl) rfl
theorem q1994 : (Jvm.Cond.code ({ cls := "ArmsHouseModel", name := "blazon", desc := "()I" } : Jvm.MethodName) prog_20_method_43_code (1 : Nat) (Option.some Jvm.ClassFile.FieldType.int)) ∈ lw_all := lw_g (lw_at lw_m8 165 rfl) rfl
theorem q1995 : (Jvm.Cond.methodLink "ArmsHouseModel" (406 : Nat) ({ cls := "ArmsHouseModel", name := "read", desc := "()V" } : Jvm.MethodName)) ∈ lw_all := lw_g (lw_at lw_m8 166 rfl) rfl
theorem q1997 : (Jvm.Cond.instanceMethod ({ cls := "ArmsHouseModel", name := "read", desc := "()V" } : Jvm.MethodName)) ∈ lw_all := lw_g (lw_at lw_m8 168 rfl) rfl
theorem q1998 : (Jvm.Cond.code ({ cls := "ArmsHouseModel", name := "read", desc := "()V" } : Jvm.MethodName) prog_20_method_39_code (2 : Nat) (Option.none : Option Jvm.ClassFile.FieldType)) ∈ lw_all := lw_g (lw_at lw_m8 169 rfl) rfl
theorem q1999 : (Jvm.Cond.methodLink "ArmsHouseModel" (383 : Nat) ({ cls := "ArmsHouseModel", name := "start", desc := "()V" } : Jvm.MethodName)) ∈ lw_all := lw_g (lw_at lw_m8 170 rfl) rfl
theorem q2001 : (Jvm.Cond.instanceMethod ({ cls := "ArmsHouseModel", name := "start", desc := "()V" } : Jvm.MethodName)) ∈ lw_all := lw_g (lw_at lw_m8 172 rfl) rfl
theorem q2002 : (Jvm.Cond.code ({ cls := "ArmsHouseModel", name := "start", desc := "()V" } : Jvm.MethodName) prog_20_method_19_code (1 : Nat) (Option.none : Option Jvm.ClassFile.FieldType)) ∈ lw_all := lw_g (lw_at lw_m8 173 rfl) rfl
theorem q2003 : (Jvm.Cond.methodLink "ArmsHouseModel" (274 : Nat) ({ cls := "ArmsHouseModel", name := "next", desc := "()V" } : Jvm.MethodName)) ∈ lw_all := lw_g (lw_at lw_m8 174 rfl) rfl
theorem q2005 : (Jvm.Cond.instanceMethod ({ cls := "ArmsHouseModel", name := "next", desc := "()V" } : Jvm.MethodName)) ∈ lw_all := lw_g (lw_at lw_m8 176 rfl) rfl
theorem q2006 : (Jvm.Cond.code ({ cls := "ArmsHouseModel", name := "next", desc := "()V" } : Jvm.MethodName) prog_20_method_18_code (2 : Nat) (Option.none : Option Jvm.ClassFile.FieldType)) ∈ lw_all := lw_g (lw_at lw_m8 177 rfl) rfl
theorem q2007 : (Jvm.Cond.methodLink "ArmsHouseModel" (252 : Nat) ({ cls := "ArmsHouseModel", name := "isLetter", desc := "(I)Z" } : Jvm.MethodName)) ∈ lw_all := lw_g (lw_at lw_m8 178 rfl) rfl
theorem q2008 : (Jvm.Cond.static ({ cls := "ArmsHouseModel", name := "isLetter", desc := "(I)Z" } : Jvm.MethodName)) ∈ lw_all := lw_g (lw_at lw_m8 179 rfl) rfl
theorem q2009 : (Jvm.Cond.code ({ cls := "ArmsHouseModel", name := "isLetter", desc := "(I)Z" } : Jvm.MethodName) prog_20_method_16_code (1 : Nat) (Option.some Jvm.ClassFile.FieldType.boolean)) ∈ lw_all := lw_g (lw_at lw_m8 180 rfl) rfl
theorem q2010 : (Jvm.Cond.constantLong "ArmsHouseModel" (256 : Nat) (27 : Int64)) ∈ lw_all := lw_g (lw_at lw_m8 181 rfl) rfl
theorem q2011 : (Jvm.Cond.constantLong "ArmsHouseModel" (258 : Nat) (96 : Int64)) ∈ lw_all := lw_g (lw_at lw_m8 182 rfl) rfl
theorem q2012 : (Jvm.Cond.methodLink "ArmsHouseModel" (260 : Nat) ({ cls := "ArmsHouseModel", name := "isDigit", desc := "(I)Z" } : Jvm.MethodName)) ∈ lw_all := lw_g (lw_at lw_m8 183 rfl) rfl
theorem q2013 : (Jvm.Cond.static ({ cls := "ArmsHouseModel", name := "isDigit", desc := "(I)Z" } : Jvm.MethodName)) ∈ lw_all := lw_g (lw_at lw_m8 184 rfl) rfl
theorem q2014 : (Jvm.Cond.code ({ cls := "ArmsHouseModel", name := "isDigit", desc := "(I)Z" } : Jvm.MethodName) prog_20_method_17_code (1 : Nat) (Option.some Jvm.ClassFile.FieldType.boolean)) ∈ lw_all := lw_g (lw_at lw_m8 185 rfl) rfl
theorem q2015 : (Jvm.Cond.constantLong "ArmsHouseModel" (263 : Nat) (10 : Int64)) ∈ lw_all := lw_g (lw_at lw_m8 186 rfl) rfl
theorem q2016 : (Jvm.Cond.constantLong "ArmsHouseModel" (265 : Nat) (48 : Int64)) ∈ lw_all := lw_g (lw_at lw_m8 187 rfl) rfl
theorem q2017 : (Jvm.Cond.methodLink "ArmsHouseModel" (386 : Nat) ({ cls := "ArmsHouseModel", name := "field", desc := "()V" } : Jvm.MethodName)) ∈ lw_all := lw_g (lw_at lw_m8 188 rfl) rfl
theorem q2019 : (Jvm.Cond.instanceMethod ({ cls := "ArmsHouseModel", name := "field", desc := "()V" } : Jvm.MethodName)) ∈ lw_all := lw_g (lw_at lw_m8 190 rfl) rfl
theorem q2020 : (Jvm.Cond.code ({ cls := "ArmsHouseModel", name := "field", desc := "()V" } : Jvm.MethodName) prog_20_method_30_code (2 : Nat) (Option.none : Option Jvm.ClassFile.FieldType)) ∈ lw_all := lw_g (lw_at lw_m8 191 rfl) rfl
theorem q2021 : (Jvm.Cond.constantLong "ArmsHouseModel" (312 : Nat) (11817 : Int64)) ∈ lw_all := lw_g (lw_at lw_m8 192 rfl) rfl
theorem q2022 : (Jvm.Cond.methodLink "ArmsHouseModel" (280 : Nat) ({ cls := "ArmsHouseModel", name := "isWord", desc := "(J)Z" } : Jvm.MethodName)) ∈ lw_all := lw_g (lw_at lw_m8 193 rfl) rfl
theorem q2024 : (Jvm.Cond.instanceMethod ({ cls := "ArmsHouseModel", name := "isWord", desc := "(J)Z" } : Jvm.MethodName)) ∈ lw_all := lw_g (lw_at lw_m8 195 rfl) rfl
theorem q2025 : (Jvm.Cond.code ({ cls := "ArmsHouseModel", name := "isWord", desc := "(J)Z" } : Jvm.MethodName) prog_20_method_22_code (3 : Nat) (Option.some Jvm.ClassFile.FieldType.boolean)) ∈ lw_all := lw_g (lw_at lw_m8 196 rfl) rfl
theorem q2026 : (Jvm.Cond.methodLink "ArmsHouseModel" (288 : Nat) ({ cls := "ArmsHouseModel", name := "go", desc := "()V" } : Jvm.MethodName)) ∈ lw_all := lw_g (lw_at lw_m8 197 rfl) rfl
theorem q2028 : (Jvm.Cond.instanceMethod ({ cls := "ArmsHouseModel", name := "go", desc := "()V" } : Jvm.MethodName)) ∈ lw_all := lw_g (lw_at lw_m8 199 rfl) rfl
theorem q2029 : (Jvm.Cond.code ({ cls := "ArmsHouseModel", name := "go", desc := "()V" } : Jvm.MethodName) prog_20_method_21_code (1 : Nat) (Option.none : Option Jvm.ClassFile.FieldType)) ∈ lw_all := lw_g (lw_at lw_m8 200 rfl) rfl
theorem q2030 : (Jvm.Cond.methodLink "ArmsHouseModel" (294 : Nat) ({ cls := "ArmsHouseModel", name := "wordOf", desc := "(J[JI)I" } : Jvm.MethodName)) ∈ lw_all := lw_g (lw_at lw_m8 201 rfl) rfl
theorem q2031 : (Jvm.Cond.static ({ cls := "ArmsHouseModel", name := "wordOf", desc := "(J[JI)I" } : Jvm.MethodName)) ∈ lw_all := lw_g (lw_at lw_m8 202 rfl) rfl
theorem q2032 : (Jvm.Cond.code ({ cls := "ArmsHouseModel", name := "wordOf", desc := "(J[JI)I" } : Jvm.MethodName) prog_20_method_15_code (5 : Nat) (Option.some Jvm.ClassFile.FieldType.int)) ∈ lw_all := lw_g (lw_at lw_m8 203 rfl) rfl
theorem q2033 : (Jvm.Cond.methodLink "ArmsHouseModel" (284 : Nat) ({ cls := "ArmsHouseModel", name := "fails", desc := "(I)V" } : Jvm.MethodName)) ∈ lw_all := lw_g (lw_at lw_m8 204 rfl) rfl
theorem q2035 : (Jvm.Cond.instanceMethod ({ cls := "ArmsHouseModel", name := "fails", desc := "(I)V" } : Jvm.MethodName)) ∈ lw_all := lw_g (lw_at lw_m8 206 rfl) rfl
theorem q2036 : (Jvm.Cond.code ({ cls := "ArmsHouseModel", name := "fails", desc := "(I)V" } : Jvm.MethodName) prog_20_method_20_code (2 : Nat) (Option.none : Option Jvm.ClassFile.FieldType)) ∈ lw_all := lw_g (lw_at lw_m8 207 rfl) rfl
theorem q2037 : (Jvm.Cond.methodLink "ArmsHouseModel" (314 : Nat) ({ cls := "ArmsHouseModel", name := "line", desc := "()I" } : Jvm.MethodName)) ∈ lw_all := lw_g (lw_at lw_m8 208 rfl) rfl
theorem q2039 : (Jvm.Cond.instanceMethod ({ cls := "ArmsHouseModel", name := "line", desc := "()I" } : Jvm.MethodName)) ∈ lw_all := lw_g (lw_at lw_m8 210 rfl) rfl
theorem q2040 : (Jvm.Cond.code ({ cls := "ArmsHouseModel", name := "line", desc := "()I" } : Jvm.MethodName) prog_20_method_28_code (2 : Nat) (Option.some Jvm.ClassFile.FieldType.int)) ∈ lw_all := lw_g (lw_at lw_m8 211 rfl) rfl
theorem q2041 : (Jvm.Cond.constantLong "ArmsHouseModel" (298 : Nat) (454057 : Int64)) ∈ lw_all := lw_g (lw_at lw_m8 212 rfl) rfl
theorem q2042 : (Jvm.Cond.constantLong "ArmsHouseModel" (300 : Nat) (99627408787 : Int64)) ∈ lw_all := lw_g (lw_at lw_m8 213 rfl) rfl
theorem q2043 : (Jvm.Cond.methodLink "ArmsHouseModel" (318 : Nat) ({ cls := "ArmsHouseModel", name := "two", desc := "()V" } : Jvm.MethodName)) ∈ lw_all := lw_g (lw_at lw_m8 214 rfl) rfl
theorem q2045 : (Jvm.Cond.instanceMethod ({ cls := "ArmsHouseModel", name := "two", desc := "()V" } : Jvm.MethodName)) ∈ lw_all := lw_g (lw_at lw_m8 216 rfl) rfl
theorem q2046 : (Jvm.Cond.code ({ cls := "ArmsHouseModel", name := "two", desc := "()V" } : Jvm.MethodName) prog_20_method_29_code (1 : Nat) (Option.none : Option Jvm.ClassFile.FieldType)) ∈ lw_all := lw_g (lw_at lw_m8 217 rfl) rfl
theorem q2047 : (Jvm.Cond.methodLink "ArmsHouseModel" (302 : Nat) ({ cls := "ArmsHouseModel", name := "oneOf", desc := "([JI)I" } : Jvm.MethodName)) ∈ lw_all := lw_g (lw_at lw_m8 218 rfl) rfl
theorem q2049 : (Jvm.Cond.instanceMethod ({ cls := "ArmsHouseModel", name := "oneOf", desc := "([JI)I" } : Jvm.MethodName)) ∈ lw_all := lw_g (lw_at lw_m8 220 rfl) rfl
theorem q2050 : (Jvm.Cond.code ({ cls := "ArmsHouseModel", name := "oneOf", desc := "([JI)I" } : Jvm.MethodName) prog_20_method_26_code (4 : Nat) (Option.some Jvm.ClassFile.FieldType.int)) ∈ lw_all := lw_g (lw_at lw_m8 221 rfl) rfl
theorem q2051 : (Jvm.Cond.constantLong "ArmsHouseModel" (306 : Nat) (1111 : Int64)) ∈ lw_all := lw_g (lw_at lw_m8 222 rfl) rfl
theorem q2052 : (Jvm.Cond.methodLink "ArmsHouseModel" (308 : Nat) ({ cls := "ArmsHouseModel", name := "word", desc := "(J)V" } : Jvm.MethodName)) ∈ lw_all := lw_g (lw_at lw_m8 223 rfl) rfl
theorem q2054 : (Jvm.Cond.instanceMethod ({ cls := "ArmsHouseModel", name := "word", desc := "(J)V" } : Jvm.MethodName)) ∈ lw_all := lw_g (lw_at lw_m8 225 rfl) rfl
theorem q2055 : (Jvm.Cond.code ({ cls := "ArmsHouseModel", name := "word", desc := "(J)V" } : Jvm.MethodName) prog_20_method_24_code (3 : Nat) (Option.none : Option Jvm.ClassFile.FieldType)) ∈ lw_all := lw_g (lw_at lw_m8 226 rfl) rfl
theorem q2056 : (Jvm.Cond.constantLong "ArmsHouseModel" (321 : Nat) (5021625978961 : Int64)) ∈ lw_all := lw_g (lw_at lw_m8 227 rfl) rfl
theorem q2057 : (Jvm.Cond.constantLong "ArmsHouseModel" (323 : Nat) (47399173 : Int64)) ∈ lw_all := lw_g (lw_at lw_m8 228 rfl) rfl
theorem q2058 : (Jvm.Cond.constantLong "ArmsHouseModel" (325 : Nat) (1096198 : Int64)) ∈ lw_all := lw_g (lw_at lw_m8 229 rfl) rfl
theorem q2059 : (Jvm.Cond.constantLong "ArmsHouseModel" (327 : Nat) (316006 : Int64)) ∈ lw_all := lw_g (lw_at lw_m8 230 rfl) rfl
theorem q2060 : (Jvm.Cond.constantLong "ArmsHouseModel" (329 : Nat) (1171636 : Int64)) ∈ lw_all := lw_g (lw_at lw_m8 231 rfl) rfl
theorem q2061 : (Jvm.Cond.constantLong "ArmsHouseModel" (331 : Nat) (411 : Int64)) ∈ lw_all := lw_g (lw_at lw_m8 232 rfl) rfl
theorem q2062 : (Jvm.Cond.constantLong "ArmsHouseModel" (333 : Nat) (4 : Int64)) ∈ lw_all := lw_g (lw_at lw_m8 233 rfl) rfl
theorem q2063 : (Jvm.Cond.constantLong "ArmsHouseModel" (335 : Nat) (12 : Int64)) ∈ lw_all := lw_g (lw_at lw_m8 234 rfl) rfl
theorem q2064 : (Jvm.Cond.constantLong "ArmsHouseModel" (337 : Nat) (2 : Int64)) ∈ lw_all := lw_g (lw_at lw_m8 235 rfl) rfl
theorem q2065 : (Jvm.Cond.methodLink "ArmsHouseModel" (291 : Nat) ({ cls := "ArmsHouseModel", name := "isSign", desc := "(I)Z" } : Jvm.MethodName)) ∈ lw_all := lw_g (lw_at lw_m8 236 rfl) rfl
theorem q2067 : (Jvm.Cond.instanceMethod ({ cls := "ArmsHouseModel", name := "isSign", desc := "(I)Z" } : Jvm.MethodName)) ∈ lw_all := lw_g (lw_at lw_m8 238 rfl) rfl
theorem q2068 : (Jvm.Cond.code ({ cls := "ArmsHouseModel", name := "isSign", desc := "(I)Z" } : Jvm.MethodName) prog_20_method_23_code (2 : Nat) (Option.some Jvm.ClassFile.FieldType.boolean)) ∈ lw_all := lw_g (lw_at lw_m8 239 rfl) rfl
theorem q2069 : (Jvm.Cond.methodLink "ArmsHouseModel" (354 : Nat) ({ cls := "ArmsHouseModel", name := "number", desc := "()V" } : Jvm.MethodName)) ∈ lw_all := lw_g (lw_at lw_m9 0 rfl) rfl
theorem q2071 : (Jvm.Cond.instanceMethod ({ cls := "ArmsHouseModel", name := "number", desc := "()V" } : Jvm.MethodName)) ∈ lw_all := lw_g (lw_at lw_m9 2 rfl) rfl
theorem q2072 : (Jvm.Cond.code ({ cls := "ArmsHouseModel", name := "number", desc := "()V" } : Jvm.MethodName) prog_20_method_34_code (1 : Nat) (Option.none : Option Jvm.ClassFile.FieldType)) ∈ lw_all := lw_g (lw_at lw_m9 3 rfl) rfl
theorem q2073 : (Jvm.Cond.constantLong "ArmsHouseModel" (365 : Nat) (6129995853 : Int64)) ∈ lw_all := lw_g (lw_at lw_m9 4 rfl) rfl
theorem q2074 : (Jvm.Cond.constantLong "ArmsHouseModel" (367 : Nat) (419 : Int64)) ∈ lw_all := lw_g (lw_at lw_m9 5 rfl) rfl
theorem q2075 : (Jvm.Cond.methodLink "ArmsHouseModel" (389 : Nat) ({ cls := "ArmsHouseModel", name := "layer", desc := "(I)V" } : Jvm.MethodName)) ∈ lw_all := lw_g (lw_at lw_m9 6 rfl) rfl
theorem q2077 : (Jvm.Cond.instanceMethod ({ cls := "ArmsHouseModel", name := "layer", desc := "(I)V" } : Jvm.MethodName)) ∈ lw_all := lw_g (lw_at lw_m9 8 rfl) rfl
theorem q2078 : (Jvm.Cond.code ({ cls := "ArmsHouseModel", name := "layer", desc := "(I)V" } : Jvm.MethodName) prog_20_method_38_code (2 : Nat) (Option.none : Option Jvm.ClassFile.FieldType)) ∈ lw_all := lw_g (lw_at lw_m9 9 rfl) rfl
theorem q2079 : (Jvm.Cond.methodLink "ArmsHouseModel" (369 : Nat) ({ cls := "ArmsHouseModel", name := "ordinary", desc := "(I)V" } : Jvm.MethodName)) ∈ lw_all := lw_g (lw_at lw_m9 10 rfl) rfl
theorem q2081 : (Jvm.Cond.instanceMethod ({ cls := "ArmsHouseModel", name := "ordinary", desc := "(I)V" } : Jvm.MethodName)) ∈ lw_all := lw_g (lw_at lw_m9 12 rfl) rfl
theorem q2082 : (Jvm.Cond.code ({ cls := "ArmsHouseModel", name := "ordinary", desc := "(I)V" } : Jvm.MethodName) prog_20_method_36_code (3 : Nat) (Option.none : Option Jvm.ClassFile.FieldType)) ∈ lw_all := lw_g (lw_at lw_m9 13 rfl) rfl
theorem q2083 : (Jvm.Cond.methodLink "ArmsHouseModel" (372 : Nat) ({ cls := "ArmsHouseModel", name := "group", desc := "(II)V" } : Jvm.MethodName)) ∈ lw_all := lw_g (lw_at lw_m9 14 rfl) rfl
theorem q2085 : (Jvm.Cond.instanceMethod ({ cls := "ArmsHouseModel", name := "group", desc := "(II)V" } : Jvm.MethodName)) ∈ lw_all := lw_g (lw_at lw_m9 16 rfl) rfl
theorem q2086 : (Jvm.Cond.code ({ cls := "ArmsHouseModel", name := "group", desc := "(II)V" } : Jvm.MethodName) prog_20_method_35_code (4 : Nat) (Option.none : Option Jvm.ClassFile.FieldType)) ∈ lw_all := lw_g (lw_at lw_m9 17 rfl) rfl
theorem q2087 : (Jvm.Cond.methodLink "ArmsHouseModel" (351 : Nat) ({ cls := "ArmsHouseModel", name := "thing", desc := "(II)V" } : Jvm.MethodName)) ∈ lw_all := lw_g (lw_at lw_m9 18 rfl) rfl
theorem q2089 : (Jvm.Cond.instanceMethod ({ cls := "ArmsHouseModel", name := "thing", desc := "(II)V" } : Jvm.MethodName)) ∈ lw_all := lw_g (lw_at lw_m9 20 rfl) rfl
theorem q2090 : (Jvm.Cond.code ({ cls := "ArmsHouseModel", name := "thing", desc := "(II)V" } : Jvm.MethodName) prog_20_method_33_code (6 : Nat) (Option.none : Option Jvm.ClassFile.FieldType)) ∈ lw_all := lw_g (lw_at lw_m9 21 rfl) rfl
theorem q2091 : (Jvm.Cond.methodLink "ArmsHouseModel" (339 : Nat) ({ cls := "ArmsHouseModel", name := "firstAttitude", desc := "(I)I" } : Jvm.MethodName)) ∈ lw_all := lw_g (lw_at lw_m9 22 rfl) rfl
theorem q2092 : (Jvm.Cond.static ({ cls := "ArmsHouseModel", name := "firstAttitude", desc := "(I)I" } : Jvm.MethodName)) ∈ lw_all := lw_g (lw_at lw_m9 23 rfl) rfl
theorem q2093 : (Jvm.Cond.code ({ cls := "ArmsHouseModel", name := "firstAttitude", desc := "(I)I" } : Jvm.MethodName) prog_20_method_31_code (1 : Nat) (Option.some Jvm.ClassFile.FieldType.int)) ∈ lw_all := lw_g (lw_at lw_m9 24 rfl) rfl
theorem q2094 : (Jvm.Cond.methodLink "ArmsHouseModel" (343 : Nat) ({ cls := "ArmsHouseModel", name := "isOneOf", desc := "([JI)Z" } : Jvm.MethodName)) ∈ lw_all := lw_g (lw_at lw_m9 25 rfl) rfl
theorem q2096 : (Jvm.Cond.instanceMethod ({ cls := "ArmsHouseModel", name := "isOneOf", desc := "([JI)Z" } : Jvm.MethodName)) ∈ lw_all := lw_g (lw_at lw_m9 27 rfl) rfl
theorem q2097 : (Jvm.Cond.code ({ cls := "ArmsHouseModel", name := "isOneOf", desc := "([JI)Z" } : Jvm.MethodName) prog_20_method_27_code (3 : Nat) (Option.some Jvm.ClassFile.FieldType.boolean)) ∈ lw_all := lw_g (lw_at lw_m9 28 rfl) rfl
theorem q2098 : (Jvm.Cond.methodLink "ArmsHouseModel" (347 : Nat) ({ cls := "ArmsHouseModel", name := "may", desc := "(II)Z" } : Jvm.MethodName)) ∈ lw_all := lw_g (lw_at lw_m9 29 rfl) rfl
theorem q2099 : (Jvm.Cond.static ({ cls := "ArmsHouseModel", name := "may", desc := "(II)Z" } : Jvm.MethodName)) ∈ lw_all := lw_g (lw_at lw_m9 30 rfl) rfl
theorem q2100 : (Jvm.Cond.code ({ cls := "ArmsHouseModel", name := "may", desc := "(II)Z" } : Jvm.MethodName) prog_20_method_32_code (2 : Nat) (Option.some Jvm.ClassFile.FieldType.boolean)) ∈ lw_all := lw_g (lw_at lw_m9 31 rfl) rfl
theorem q2101 : (Jvm.Cond.constantLong "ArmsHouseModel" (375 : Nat) (857670836 : Int64)) ∈ lw_all := lw_g (lw_at lw_m9 32 rfl) rfl
theorem q2102 : (Jvm.Cond.methodLink "ArmsHouseModel" (377 : Nat) ({ cls := "ArmsHouseModel", name := "partOf", desc := "(I)V" } : Jvm.MethodName)) ∈ lw_all := lw_g (lw_at lw_m9 33 rfl) rfl
theorem q2104 : (Jvm.Cond.instanceMethod ({ cls := "ArmsHouseModel", name := "partOf", desc := "(I)V" } : Jvm.MethodName)) ∈ lw_all := lw_g (lw_at lw_m9 35 rfl) rfl
theorem q2105 : (Jvm.Cond.code ({ cls := "ArmsHouseModel", name := "partOf", desc := "(I)V" } : Jvm.MethodName) prog_20_method_37_code (2 : Nat) (Option.none : Option Jvm.ClassFile.FieldType)) ∈ lw_all := lw_g (lw_at lw_m9 36 rfl) rfl
theorem q2106 : (Jvm.Cond.constantLong "ArmsHouseModel" (363 : Nat) (257 : Int64)) ∈ lw_all := lw_g (lw_at lw_m9 37 rfl) rfl
theorem q2107 : (Jvm.Cond.methodLink "ArmsHouseModel" (409 : Nat) ({ cls := "ArmsHouseModel", name := "mean", desc := "()V" } : Jvm.MethodName)) ∈ lw_all := lw_g (lw_at lw_m9 38 rfl) rfl
theorem q2109 : (Jvm.Cond.instanceMethod ({ cls := "ArmsHouseModel", name := "mean", desc := "()V" } : Jvm.MethodName)) ∈ lw_all := lw_g (lw_at lw_m9 40 rfl) rfl
theorem q2110 : (Jvm.Cond.code ({ cls := "ArmsHouseModel", name := "mean", desc := "()V" } : Jvm.MethodName) prog_20_method_41_code (5 : Nat) (Option.none : Option Jvm.ClassFile.FieldType)) ∈ lw_all := lw_g (lw_at lw_m9 41 rfl) rfl
theorem q2111 : (Jvm.Cond.methodLink "ArmsHouseModel" (400 : Nat) ({ cls := "ArmsHouseModel", name := "isPart", desc := "(II)Z" } : Jvm.MethodName)) ∈ lw_all := lw_g (lw_at lw_m9 42 rfl) rfl
theorem q2113 : (Jvm.Cond.instanceMethod ({ cls := "ArmsHouseModel", name := "isPart", desc := "(II)Z" } : Jvm.MethodName)) ∈ lw_all := lw_g (lw_at lw_m9 44 rfl) rfl
theorem q2114 : (Jvm.Cond.code ({ cls := "ArmsHouseModel", name := "isPart", desc := "(II)Z" } : Jvm.MethodName) prog_20_method_40_code (3 : Nat) (Option.some Jvm.ClassFile.FieldType.boolean)) ∈ lw_all := lw_g (lw_at lw_m9 45 rfl) rfl
theorem q2115 : (Jvm.Cond.methodLink "ArmsHouseModel" (412 : Nat) ({ cls := "ArmsHouseModel", name := "keep", desc := "()I" } : Jvm.MethodName)) ∈ lw_all := lw_g (lw_at lw_m9 46 rfl) rfl
theorem q2117 : (Jvm.Cond.instanceMethod ({ cls := "ArmsHouseModel", name := "keep", desc := "()I" } : Jvm.MethodName)) ∈ lw_all := lw_g (lw_at lw_m9 48 rfl) rfl
theorem q2118 : (Jvm.Cond.code ({ cls := "ArmsHouseModel", name := "keep", desc := "()I" } : Jvm.MethodName) prog_20_method_42_code (1 : Nat) (Option.some Jvm.ClassFile.FieldType.int)) ∈ lw_all := lw_g (lw_at lw_m9 49 rfl) rfl
theorem q2119 : (Jvm.Cond.methodLink "ArmsHouseModel" (403 : Nat) ({ cls := "ArmsHouseModel", name := "copy", desc := "(II)V" } : Jvm.MethodName)) ∈ lw_all := lw_g (lw_at lw_m9 50 rfl) rfl
theorem q2121 : (Jvm.Cond.instanceMethod ({ cls := "ArmsHouseModel", name := "copy", desc := "(II)V" } : Jvm.MethodName)) ∈ lw_all := lw_g (lw_at lw_m9 52 rfl) rfl
theorem q2122 : (Jvm.Cond.code ({ cls := "ArmsHouseModel", name := "copy", desc := "(II)V" } : Jvm.MethodName) prog_20_method_5_code (4 : Nat) (Option.none : Option Jvm.ClassFile.FieldType)) ∈ lw_all := lw_g (lw_at lw_m9 53 rfl) rfl
theorem q2123 : (Jvm.Cond.methodLink "ArmsHouseLaw" (41 : Nat) ({ cls := "ArmsHouseModel", name := "fault", desc := "()I" } : Jvm.MethodName)) ∈ lw_all := lw_g (lw_at lw_m9 54 rfl) rfl
theorem q2124 : (Jvm.Cond.instanceMethod ({ cls := "ArmsHouseModel", name := "fault", desc := "()I" } : Jvm.MethodName)) ∈ lw_all := lw_g (lw_at lw_m9 55 rfl) rfl
theorem q2125 : (Jvm.Cond.selects "ArmsHouseModel" ({ cls := "ArmsHouseModel", name := "fault", desc := "()I" } : Jvm.MethodName) ({ cls := "ArmsHouseModel", name := "fault", desc := "()I" } : Jvm.MethodName)) ∈ lw_all := lw_g (lw_at lw_m9 56 rfl) rfl
theorem q2126 : (Jvm.Cond.code ({ cls := "ArmsHouseModel", name := "fault", desc := "()I" } : Jvm.MethodName) prog_20_method_44_code (1 : Nat) (Option.some Jvm.ClassFile.FieldType.int)) ∈ lw_all := lw_g (lw_at lw_m9 57 rfl) rfl
theorem q2127 : (Jvm.Cond.methodLink "ArmsHouseLaw" (46 : Nat) ({ cls := "ArmsHouseModel", name := "one", desc := "(II)I" } : Jvm.MethodName)) ∈ lw_all := lw_g (lw_at lw_m9 58 rfl) rfl
theorem q2128 : (Jvm.Cond.instanceMethod ({ cls := "ArmsHouseModel", name := "one", desc := "(II)I" } : Jvm.MethodName)) ∈ lw_all := lw_g (lw_at lw_m9 59 rfl) rfl
theorem q2129 : (Jvm.Cond.selects "ArmsHouseModel" ({ cls := "ArmsHouseModel", name := "one", desc := "(II)I" } : Jvm.MethodName) ({ cls := "ArmsHouseModel", name := "one", desc := "(II)I" } : Jvm.MethodName)) ∈ lw_all := lw_g (lw_at lw_m9 60 rfl) rfl
theorem q2130 : (Jvm.Cond.code ({ cls := "ArmsHouseModel", name := "one", desc := "(II)I" } : Jvm.MethodName) prog_20_method_45_code (3 : Nat) (Option.some Jvm.ClassFile.FieldType.int)) ∈ lw_all := lw_g (lw_at lw_m9 61 rfl) rfl
theorem q2131 : (Jvm.Cond.methodLink "ArmsHouseModel" (415 : Nat) ({ cls := "ArmsHouseModel", name := "has", desc := "(I)Z" } : Jvm.MethodName)) ∈ lw_all := lw_g (lw_at lw_m9 62 rfl) rfl
theorem q2133 : (Jvm.Cond.instanceMethod ({ cls := "ArmsHouseModel", name := "has", desc := "(I)Z" } : Jvm.MethodName)) ∈ lw_all := lw_g (lw_at lw_m9 64 rfl) rfl
theorem q2134 : (Jvm.Cond.code ({ cls := "ArmsHouseModel", name := "has", desc := "(I)Z" } : Jvm.MethodName) prog_20_method_7_code (2 : Nat) (Option.some Jvm.ClassFile.FieldType.boolean)) ∈ lw_all := lw_g (lw_at lw_m9 65 rfl) rfl
theorem q2135 : (Jvm.Cond.methodLink "ArmsHouseModel" (418 : Nat) ({ cls := "ArmsHouseModel", name := "areOne", desc := "(II)Z" } : Jvm.MethodName)) ∈ lw_all := lw_g (lw_at lw_m9 66 rfl) rfl
theorem q2137 : (Jvm.Cond.instanceMethod ({ cls := "ArmsHouseModel", name := "areOne", desc := "(II)Z" } : Jvm.MethodName)) ∈ lw_all := lw_g (lw_at lw_m9 68 rfl) rfl
theorem q2138 : (Jvm.Cond.code ({ cls := "ArmsHouseModel", name := "areOne", desc := "(II)Z" } : Jvm.MethodName) prog_20_method_6_code (4 : Nat) (Option.some Jvm.ClassFile.FieldType.boolean)) ∈ lw_all := lw_g (lw_at lw_m9 69 rfl) rfl
theorem q2139 : (Jvm.Cond.methodLink "ArmsHouseLaw" (50 : Nat) ({ cls := "ArmsHouseModel", name := "layers", desc := "(I)I" } : Jvm.MethodName)) ∈ lw_all := lw_g (lw_at lw_m9 70 rfl) rfl
theorem q2140 : (Jvm.Cond.instanceMethod ({ cls := "ArmsHouseModel", name := "layers", desc := "(I)I" } : Jvm.MethodName)) ∈ lw_all := lw_g (lw_at lw_m9 71 rfl) rfl
theorem q2141 : (Jvm.Cond.selects "ArmsHouseModel" ({ cls := "ArmsHouseModel", name := "layers", desc := "(I)I" } : Jvm.MethodName) ({ cls := "ArmsHouseModel", name := "layers", desc := "(I)I" } : Jvm.MethodName)) ∈ lw_all := lw_g (lw_at lw_m9 72 rfl) rfl
theorem q2142 : (Jvm.Cond.code ({ cls := "ArmsHouseModel", name := "layers", desc := "(I)I" } : Jvm.MethodName) prog_20_method_46_code (2 : Nat) (Option.some Jvm.ClassFile.FieldType.int)) ∈ lw_all := lw_g (lw_at lw_m9 73 rfl) rfl
theorem q2143 : (Jvm.Cond.methodLink "ArmsHouseLaw" (55 : Nat) ({ cls := "ArmsHouseModel", name := "meaning", desc := "(III)I" } : Jvm.MethodName)) ∈ lw_all := lw_g (lw_at lw_m9 74 rfl) rfl
theorem q2144 : (Jvm.Cond.instanceMethod ({ cls := "ArmsHouseModel", name := "meaning", desc := "(III)I" } : Jvm.MethodName)) ∈ lw_all := lw_g (lw_at lw_m9 75 rfl) rfl
theorem q2145 : (Jvm.Cond.selects "ArmsHouseModel" ({ cls := "ArmsHouseModel", name := "meaning", desc := "(III)I" } : Jvm.MethodName) ({ cls := "ArmsHouseModel", name := "meaning", desc := "(III)I" } : Jvm.MethodName)) ∈ lw_all := lw_g (lw_at lw_m9 76 rfl) rfl
theorem q2146 : (Jvm.Cond.code ({ cls := "ArmsHouseModel", name := "meaning", desc := "(III)I" } : Jvm.MethodName) prog_20_method_47_code (4 : Nat) (Option.some Jvm.ClassFile.FieldType.int)) ∈ lw_all := lw_g (lw_at lw_m9 77 rfl) rfl
theorem q2147 : (Jvm.Cond.methodLink "ArmsHouseLaw" (59 : Nat) ({ cls := "ArmsHouseModel", name := "write", desc := "(I)I" } : Jvm.MethodName)) ∈ lw_all := lw_g (lw_at lw_m9 78 rfl) rfl
theorem q2148 : (Jvm.Cond.instanceMethod ({ cls := "ArmsHouseModel", name := "write", desc := "(I)I" } : Jvm.MethodName)) ∈ lw_all := lw_g (lw_at lw_m9 79 rfl) rfl
theorem q2149 : (Jvm.Cond.selects "ArmsHouseModel" ({ cls := "ArmsHouseModel", name := "write", desc := "(I)I" } : Jvm.MethodName) ({ cls := "ArmsHouseModel", name := "write", desc := "(I)I" } : Jvm.MethodName)) ∈ lw_all := lw_g (lw_at lw_m9 80 rfl) rfl
theorem q2150 : (Jvm.Cond.code ({ cls := "ArmsHouseModel", name := "write", desc := "(I)I" } : Jvm.MethodName) prog_20_method_54_code (4 : Nat) (Option.some Jvm.ClassFile.FieldType.int)) ∈ lw_all := lw_g (lw_at lw_m9 81 rfl) rfl
theorem q2151 : (Jvm.Cond.methodLink "ArmsHouseModel" (433 : Nat) ({ cls := "ArmsHouseModel", name := "sayField", desc := "(I)V" } : Jvm.MethodName)) ∈ lw_all := lw_g (lw_at lw_m9 82 rfl) rfl
theorem q2153 : (Jvm.Cond.instanceMethod ({ cls := "ArmsHouseModel", name := "sayField", desc := "(I)V" } : Jvm.MethodName)) ∈ lw_all := lw_g (lw_at lw_m9 84 rfl) rfl
theorem q2154 : (Jvm.Cond.code ({ cls := "ArmsHouseModel", name := "sayField", desc := "(I)V" } : Jvm.MethodName) prog_20_method_53_code (3 : Nat) (Option.none : Option Jvm.ClassFile.FieldType)) ∈ lw_all := lw_g (lw_at lw_m9 85 rfl) rfl
theorem q2155 : (Jvm.Cond.methodLink "ArmsHouseModel" (424 : Nat) ({ cls := "ArmsHouseModel", name := "say", desc := "(J)V" } : Jvm.MethodName)) ∈ lw_all := lw_g (lw_at lw_m9 86 rfl) rfl
theorem q2157 : (Jvm.Cond.instanceMethod ({ cls := "ArmsHouseModel", name := "say", desc := "(J)V" } : Jvm.MethodName)) ∈ lw_all := lw_g (lw_at lw_m9 88 rfl) rfl
theorem q2158 : (Jvm.Cond.code ({ cls := "ArmsHouseModel", name := "say", desc := "(J)V" } : Jvm.MethodName) prog_20_method_49_code (5 : Nat) (Option.none : Option Jvm.ClassFile.FieldType)) ∈ lw_all := lw_g (lw_at lw_m9 89 rfl) rfl
theorem q2159 : (Jvm.Cond.methodLink "ArmsHouseModel" (421 : Nat) ({ cls := "ArmsHouseModel", name := "put", desc := "(I)V" } : Jvm.MethodName)) ∈ lw_all := lw_g (lw_at lw_m9 90 rfl) rfl
theorem q2161 : (Jvm.Cond.instanceMethod ({ cls := "ArmsHouseModel", name := "put", desc := "(I)V" } : Jvm.MethodName)) ∈ lw_all := lw_g (lw_at lw_m9 92 rfl) rfl
theorem q2162 : (Jvm.Cond.code ({ cls := "ArmsHouseModel", name := "put", desc := "(I)V" } : Jvm.MethodName) prog_20_method_48_code (2 : Nat) (Option.none : Option Jvm.ClassFile.FieldType)) ∈ lw_all := lw_g (lw_at lw_m9 93 rfl) rfl
theorem q2163 : (Jvm.Cond.methodLink "ArmsHouseModel" (430 : Nat) ({ cls := "ArmsHouseModel", name := "sayLine", desc := "(I)V" } : Jvm.MethodName)) ∈ lw_all := lw_g (lw_at lw_m9 94 rfl) rfl
theorem q2165 : (Jvm.Cond.instanceMethod ({ cls := "ArmsHouseModel", name := "sayLine", desc := "(I)V" } : Jvm.MethodName)) ∈ lw_all := lw_g (lw_at lw_m9 96 rfl) rfl
theorem q2166 : (Jvm.Cond.code ({ cls := "ArmsHouseModel", name := "sayLine", desc := "(I)V" } : Jvm.MethodName) prog_20_method_51_code (2 : Nat) (Option.none : Option Jvm.ClassFile.FieldType)) ∈ lw_all := lw_g (lw_at lw_m9 97 rfl) rfl
theorem q2167 : (Jvm.Cond.methodLink "ArmsHouseModel" (427 : Nat) ({ cls := "ArmsHouseModel", name := "sayNumber", desc := "(I)V" } : Jvm.MethodName)) ∈ lw_all := lw_g (lw_at lw_m9 98 rfl) rfl
theorem q2169 : (Jvm.Cond.instanceMethod ({ cls := "ArmsHouseModel", name := "sayNumber", desc := "(I)V" } : Jvm.MethodName)) ∈ lw_all := lw_g (lw_at lw_m9 100 rfl) rfl
theorem q2170 : (Jvm.Cond.code ({ cls := "ArmsHouseModel", name := "sayNumber", desc := "(I)V" } : Jvm.MethodName) prog_20_method_50_code (2 : Nat) (Option.none : Option Jvm.ClassFile.FieldType)) ∈ lw_all := lw_g (lw_at lw_m9 101 rfl) rfl
theorem q2171 : (Jvm.Cond.methodLink "ArmsHouseModel" (436 : Nat) ({ cls := "ArmsHouseModel", name := "sayGroup", desc := "(II)V" } : Jvm.MethodName)) ∈ lw_all := lw_g (lw_at lw_m9 102 rfl) rfl
theorem q2173 : (Jvm.Cond.instanceMethod ({ cls := "ArmsHouseModel", name := "sayGroup", desc := "(II)V" } : Jvm.MethodName)) ∈ lw_all := lw_g (lw_at lw_m9 104 rfl) rfl
theorem q2174 : (Jvm.Cond.code ({ cls := "ArmsHouseModel", name := "sayGroup", desc := "(II)V" } : Jvm.MethodName) prog_20_method_52_code (4 : Nat) (Option.none : Option Jvm.ClassFile.FieldType)) ∈ lw_all := lw_g (lw_at lw_m9 105 rfl) rfl
theorem q2175 : (Jvm.Cond.methodLink "ArmsHouseLaw" (63 : Nat) ({ cls := "ArmsHouseModel", name := "breaches", desc := "(I)I" } : Jvm.MethodName)) ∈ lw_all := lw_g (lw_at lw_m9 106 rfl) rfl
theorem q2176 : (Jvm.Cond.instanceMethod ({ cls := "ArmsHouseModel", name := "breaches", desc := "(I)I" } : Jvm.MethodName)) ∈ lw_all := lw_g (lw_at lw_m9 107 rfl) rfl
theorem q2177 : (Jvm.Cond.selects "ArmsHouseModel" ({ cls := "ArmsHouseModel", name := "breaches", desc := "(I)I" } : Jvm.MethodName) ({ cls := "ArmsHouseModel", name := "breaches", desc := "(I)I" } : Jvm.MethodName)) ∈ lw_all := lw_g (lw_at lw_m9 108 rfl) rfl
theorem q2178 : (Jvm.Cond.code ({ cls := "ArmsHouseModel", name := "breaches", desc := "(I)I" } : Jvm.MethodName) prog_20_method_60_code (2 : Nat) (Option.some Jvm.ClassFile.FieldType.int)) ∈ lw_all := lw_g (lw_at lw_m9 109 rfl) rfl
theorem q2179 : (Jvm.Cond.methodLink "ArmsHouseModel" (452 : Nat) ({ cls := "ArmsHouseModel", name := "breachMany", desc := "(I)I" } : Jvm.MethodName)) ∈ lw_all := lw_g (lw_at lw_m9 110 rfl) rfl
theorem q2181 : (Jvm.Cond.instanceMethod ({ cls := "ArmsHouseModel", name := "breachMany", desc := "(I)I" } : Jvm.MethodName)) ∈ lw_all := lw_g (lw_at lw_m9 112 rfl) rfl
theorem q2182 : (Jvm.Cond.code ({ cls := "ArmsHouseModel", name := "breachMany", desc := "(I)I" } : Jvm.MethodName) prog_20_method_59_code (3 : Nat) (Option.some Jvm.ClassFile.FieldType.int)) ∈ lw_all := lw_g (lw_at lw_m9 113 rfl) rfl
theorem q2183 : (Jvm.Cond.methodLink "ArmsHouseLaw" (67 : Nat) ({ cls := "ArmsHouseModel", name := "breach", desc := "(II)I" } : Jvm.MethodName)) ∈ lw_all := lw_g (lw_at lw_m9 114 rfl) rfl
theorem q2184 : (Jvm.Cond.instanceMethod ({ cls := "ArmsHouseModel", name := "breach", desc := "(II)I" } : Jvm.MethodName)) ∈ lw_all := lw_g (lw_at lw_m9 115 rfl) rfl
theorem q2185 : (Jvm.Cond.selects "ArmsHouseModel" ({ cls := "ArmsHouseModel", name := "breach", desc := "(II)I" } : Jvm.MethodName) ({ cls := "ArmsHouseModel", name := "breach", desc := "(II)I" } : Jvm.MethodName)) ∈ lw_all := lw_g (lw_at lw_m9 116 rfl) rfl
theorem q2186 : (Jvm.Cond.code ({ cls := "ArmsHouseModel", name := "breach", desc := "(II)I" } : Jvm.MethodName) prog_20_method_61_code (4 : Nat) (Option.some Jvm.ClassFile.FieldType.int)) ∈ lw_all := lw_g (lw_at lw_m9 117 rfl) rfl
theorem q2187 : (Jvm.Cond.methodLink "ArmsHouseLaw" (71 : Nat) ({ cls := "ArmsHouseModel", name := "dot", desc := "(III)I" } : Jvm.MethodName)) ∈ lw_all := lw_g (lw_at lw_m9 118 rfl) rfl
theorem q2188 : (Jvm.Cond.instanceMethod ({ cls := "ArmsHouseModel", name := "dot", desc := "(III)I" } : Jvm.MethodName)) ∈ lw_all := lw_g (lw_at lw_m9 119 rfl) rfl
theorem q2189 : (Jvm.Cond.selects "ArmsHouseModel" ({ cls := "ArmsHouseModel", name := "dot", desc := "(III)I" } : Jvm.MethodName) ({ cls := "ArmsHouseModel", name := "dot", desc := "(III)I" } : Jvm.MethodName)) ∈ lw_all := lw_g (lw_at lw_m9 120 rfl) rfl
theorem q2190 : (Jvm.Cond.code ({ cls := "ArmsHouseModel", name := "dot", desc := "(III)I" } : Jvm.MethodName) prog_20_method_75_code (4 : Nat) (Option.some Jvm.ClassFile.FieldType.int)) ∈ lw_all := lw_g (lw_at lw_m9 121 rfl) rfl
theorem q2191 : (Jvm.Cond.methodLink "ArmsHouseModel" (498 : Nat) ({ cls := "ArmsHouseModel", name := "draw", desc := "(I)V" } : Jvm.MethodName)) ∈ lw_all := lw_g (lw_at lw_m9 122 rfl) rfl
theorem q2193 : (Jvm.Cond.instanceMethod ({ cls := "ArmsHouseModel", name := "draw", desc := "(I)V" } : Jvm.MethodName)) ∈ lw_all := lw_g (lw_at lw_m9 124 rfl) rfl
theorem q2194 : (Jvm.Cond.code ({ cls := "ArmsHouseModel", name := "draw", desc := "(I)V" } : Jvm.MethodName) prog_20_method_73_code (4 : Nat) (Option.none : Option Jvm.ClassFile.FieldType)) ∈ lw_all := lw_g (lw_at lw_m9 125 rfl) rfl
theorem q2195 : (Jvm.Cond.methodLink "ArmsHouseModel" (462 : Nat) ({ cls := "ArmsHouseModel", name := "isShield", desc := "(II)Z" } : Jvm.MethodName)) ∈ lw_all := lw_g (lw_at lw_m9 126 rfl) rfl
theorem q2196 : (Jvm.Cond.static ({ cls := "ArmsHouseModel", name := "isShield", desc := "(II)Z" } : Jvm.MethodName)) ∈ lw_all := lw_g (lw_at lw_m9 127 rfl) rfl
theorem q2197 : (Jvm.Cond.code ({ cls := "ArmsHouseModel", name := "isShield", desc := "(II)Z" } : Jvm.MethodName) prog_20_method_63_code (2 : Nat) (Option.some Jvm.ClassFile.FieldType.boolean)) ∈ lw_all := lw_g (lw_at lw_m9 128 rfl) rfl
theorem q2198 : (Jvm.Cond.constant "ArmsHouseModel" (455 : Nat) (1327104 : Int32)) ∈ lw_all := lw_g (lw_at lw_m9 129 rfl) rfl
theorem q2199 : (Jvm.Cond.methodLink "ArmsHouseModel" (485 : Nat) ({ cls := "ArmsHouseModel", name := "isFirst", desc := "(IIIII)Z" } : Jvm.MethodName)) ∈ lw_all := lw_g (lw_at lw_m9 130 rfl) rfl
theorem q2200 : (Jvm.Cond.static ({ cls := "ArmsHouseModel", name := "isFirst", desc := "(IIIII)Z" } : Jvm.MethodName)) ∈ lw_all := lw_g (lw_at lw_m9 131 rfl) rfl
theorem q2201 : (Jvm.Cond.code ({ cls := "ArmsHouseModel", name := "isFirst", desc := "(IIIII)Z" } : Jvm.MethodName) prog_20_method_65_code (5 : Nat) (Option.some Jvm.ClassFile.FieldType.boolean)) ∈ lw_all := lw_g (lw_at lw_m9 132 rfl) rfl
theorem q2202 : (Jvm.Cond.methodLink "ArmsHouseModel" (459 : Nat) ({ cls := "ArmsHouseModel", name := "bends", desc := "(II)I" } : Jvm.MethodName)) ∈ lw_all := lw_g (lw_at lw_m9 133 rfl) rfl
theorem q2203 : (Jvm.Cond.static ({ cls := "ArmsHouseModel", name := "bends", desc := "(II)I" } : Jvm.MethodName)) ∈ lw_all := lw_g (lw_at lw_m9 134 rfl) rfl
theorem q2204 : (Jvm.Cond.code ({ cls := "ArmsHouseModel", name := "bends", desc := "(II)I" } : Jvm.MethodName) prog_20_method_64_code (3 : Nat) (Option.some Jvm.ClassFile.FieldType.int)) ∈ lw_all := lw_g (lw_at lw_m9 135 rfl) rfl
theorem q2205 : (Jvm.Cond.methodLink "ArmsHouseModel" (456 : Nat) ({ cls := "ArmsHouseModel", name := "much", desc := "(I)I" } : Jvm.MethodName)) ∈ lw_all := lw_g (lw_at lw_m9 136 rfl) rfl
theorem q2206 : (Jvm.Cond.static ({ cls := "ArmsHouseModel", name := "much", desc := "(I)I" } : Jvm.MethodName)) ∈ lw_all := lw_g (lw_at lw_m9 137 rfl) rfl
theorem q2207 : (Jvm.Cond.code ({ cls := "ArmsHouseModel", name := "much", desc := "(I)I" } : Jvm.MethodName) prog_20_method_62_code (1 : Nat) (Option.some Jvm.ClassFile.FieldType.int)) ∈ lw_all := lw_g (lw_at lw_m9 138 rfl) rfl
theorem q2208 : (Jvm.Cond.methodLink "ArmsHouseModel" (489 : Nat) ({ cls := "ArmsHouseModel", name := "drawLayer", desc := "(II)V" } : Jvm.MethodName)) ∈ lw_all := lw_g (lw_at lw_m9 139 rfl) rfl
theorem q2210 : (Jvm.Cond.instanceMethod ({ cls := "ArmsHouseModel", name := "drawLayer", desc := "(II)V" } : Jvm.MethodName)) ∈ lw_all := lw_g (lw_at lw_m9 141 rfl) rfl
theorem q2211 : (Jvm.Cond.code ({ cls := "ArmsHouseModel", name := "drawLayer", desc := "(II)V" } : Jvm.MethodName) prog_20_method_74_code (8 : Nat) (Option.none : Option Jvm.ClassFile.FieldType)) ∈ lw_all := lw_g (lw_at lw_m9 142 rfl) rfl
theorem q2212 : (Jvm.Cond.methodLink "ArmsHouseModel" (482 : Nat) ({ cls := "ArmsHouseModel", name := "isOn", desc := "(IIII)Z" } : Jvm.MethodName)) ∈ lw_all := lw_g (lw_at lw_m9 143 rfl) rfl
theorem q2213 : (Jvm.Cond.static ({ cls := "ArmsHouseModel", name := "isOn", desc := "(IIII)Z" } : Jvm.MethodName)) ∈ lw_all := lw_g (lw_at lw_m9 144 rfl) rfl
theorem q2214 : (Jvm.Cond.code ({ cls := "ArmsHouseModel", name := "isOn", desc := "(IIII)Z" } : Jvm.MethodName) prog_20_method_66_code (5 : Nat) (Option.some Jvm.ClassFile.FieldType.boolean)) ∈ lw_all := lw_g (lw_at lw_m9 145 rfl) rfl
theorem q2215 : (Jvm.Cond.methodLink "ArmsHouseModel" (465 : Nat) ({ cls := "ArmsHouseModel", name := "isEdge", desc := "(II)Z" } : Jvm.MethodName)) ∈ lw_all := lw_g (lw_at lw_m9 146 rfl) rfl
theorem q2216 : (Jvm.Cond.static ({ cls := "ArmsHouseModel", name := "isEdge", desc := "(II)Z" } : Jvm.MethodName)) ∈ lw_all := lw_g (lw_at lw_m9 147 rfl) rfl
theorem q2217 : (Jvm.Cond.code ({ cls := "ArmsHouseModel", name := "isEdge", desc := "(II)Z" } : Jvm.MethodName) prog_20_method_67_code (4 : Nat) (Option.some Jvm.ClassFile.FieldType.boolean)) ∈ lw_all := lw_g (lw_at lw_m9 148 rfl) rfl
theorem q2218 : (Jvm.Cond.methodLink "ArmsHouseModel" (492 : Nat) ({ cls := "ArmsHouseModel", name := "seats", desc := "(II)V" } : Jvm.MethodName)) ∈ lw_all := lw_g (lw_at lw_m9 149 rfl) rfl
theorem q2220 : (Jvm.Cond.instanceMethod ({ cls := "ArmsHouseModel", name := "seats", desc := "(II)V" } : Jvm.MethodName)) ∈ lw_all := lw_g (lw_at lw_m9 151 rfl) rfl
theorem q2221 : (Jvm.Cond.code ({ cls := "ArmsHouseModel", name := "seats", desc := "(II)V" } : Jvm.MethodName) prog_20_method_70_code (8 : Nat) (Option.none : Option Jvm.ClassFile.FieldType)) ∈ lw_all := lw_g (lw_at lw_m9 152 rfl) rfl
theorem q2222 : (Jvm.Cond.methodLink "ArmsHouseModel" (471 : Nat) ({ cls := "ArmsHouseModel", name := "boxed", desc := "(IIIII)V" } : Jvm.MethodName)) ∈ lw_all := lw_g (lw_at lw_m9 153 rfl) rfl
theorem q2224 : (Jvm.Cond.instanceMethod ({ cls := "ArmsHouseModel", name := "boxed", desc := "(IIIII)V" } : Jvm.MethodName)) ∈ lw_all := lw_g (lw_at lw_m9 155 rfl) rfl
theorem q2225 : (Jvm.Cond.code ({ cls := "ArmsHouseModel", name := "boxed", desc := "(IIIII)V" } : Jvm.MethodName) prog_20_method_69_code (11 : Nat) (Option.none : Option Jvm.ClassFile.FieldType)) ∈ lw_all := lw_g (lw_at lw_m9 156 rfl) rfl
theorem q2226 : (Jvm.Cond.methodLink "ArmsHouseModel" (468 : Nat) ({ cls := "ArmsHouseModel", name := "rowOf", desc := "(II)I" } : Jvm.MethodName)) ∈ lw_all := lw_g (lw_at lw_m9 157 rfl) rfl
theorem q2227 : (Jvm.Cond.static ({ cls := "ArmsHouseModel", name := "rowOf", desc := "(II)I" } : Jvm.MethodName)) ∈ lw_all := lw_g (lw_at lw_m9 158 rfl) rfl
theorem q2228 : (Jvm.Cond.code ({ cls := "ArmsHouseModel", name := "rowOf", desc := "(II)I" } : Jvm.MethodName) prog_20_method_68_code (4 : Nat) (Option.some Jvm.ClassFile.FieldType.int)) ∈ lw_all := lw_g (lw_at lw_m9 159 rfl) rfl
theorem q2229 : (Jvm.Cond.methodLink "ArmsHouseModel" (495 : Nat) ({ cls := "ArmsHouseModel", name := "fits", desc := "(III)Z" } : Jvm.MethodName)) ∈ lw_all := lw_g (lw_at lw_m9 160 rfl) rfl
theorem q2231 : (Jvm.Cond.instanceMethod ({ cls := "ArmsHouseModel", name := "fits", desc := "(III)Z" } : Jvm.MethodName)) ∈ lw_all := lw_g (lw_at lw_m9 162 rfl) rfl
theorem q2232 : (Jvm.Cond.code ({ cls := "ArmsHouseModel", name := "fits", desc := "(III)Z" } : Jvm.MethodName) prog_20_method_72_code (12 : Nat) (Option.some Jvm.ClassFile.FieldType.boolean)) ∈ lw_all := lw_g (lw_at lw_m9 163 rfl) rfl
theorem q2233 : (Jvm.Cond.methodLink "ArmsHouseModel" (478 : Nat) ({ cls := "ArmsHouseModel", name := "isIn", desc := "(IIII)Z" } : Jvm.MethodName)) ∈ lw_all := lw_g (lw_at lw_m9 164 rfl) rfl
theorem q2234 : (Jvm.Cond.static ({ cls := "ArmsHouseModel", name := "isIn", desc := "(IIII)Z" } : Jvm.MethodName)) ∈ lw_all := lw_g (lw_at lw_m9 165 rfl) rfl
theorem q2235 : (Jvm.Cond.code ({ cls := "ArmsHouseModel", name := "isIn", desc := "(IIII)Z" } : Jvm.MethodName) prog_20_method_71_code (6 : Nat) (Option.some Jvm.ClassFile.FieldType.boolean)) ∈ lw_all := lw_g (lw_at lw_m9 166 rfl) rfl
theorem q2236 : (Jvm.Cond.methodLink "ArmsHouseLaw" (75 : Nat) ({ cls := "ArmsHouseModel", name := "dots", desc := "(II)I" } : Jvm.MethodName)) ∈ lw_all := lw_g (lw_at lw_m9 167 rfl) rfl
theorem q2237 : (Jvm.Cond.instanceMethod ({ cls := "ArmsHouseModel", name := "dots", desc := "(II)I" } : Jvm.MethodName)) ∈ lw_all := lw_g (lw_at lw_m9 168 rfl) rfl
theorem q2238 : (Jvm.Cond.selects "ArmsHouseModel" ({ cls := "ArmsHouseModel", name := "dots", desc := "(II)I" } : Jvm.MethodName) ({ cls := "ArmsHouseModel", name := "dots", desc := "(II)I" } : Jvm.MethodName)) ∈ lw_all := lw_g (lw_at lw_m9 169 rfl) rfl
theorem q2239 : (Jvm.Cond.code ({ cls := "ArmsHouseModel", name := "dots", desc := "(II)I" } : Jvm.MethodName) prog_20_method_76_code (5 : Nat) (Option.some Jvm.ClassFile.FieldType.int)) ∈ lw_all := lw_g (lw_at lw_m9 170 rfl) rfl
theorem q2240 : (Jvm.Cond.methodLink "ArmsHouseLaw" (79 : Nat) ({ cls := "ArmsHouseModel", name := "size", desc := "(II)I" } : Jvm.MethodName)) ∈ lw_all := lw_g (lw_at lw_m9 171 rfl) rfl
theorem q2241 : (Jvm.Cond.instanceMethod ({ cls := "ArmsHouseModel", name := "size", desc := "(II)I" } : Jvm.MethodName)) ∈ lw_all := lw_g (lw_at lw_m9 172 rfl) rfl
theorem q2242 : (Jvm.Cond.selects "ArmsHouseModel" ({ cls := "ArmsHouseModel", name := "size", desc := "(II)I" } : Jvm.MethodName) ({ cls := "ArmsHouseModel", name := "size", desc := "(II)I" } : Jvm.MethodName)) ∈ lw_all := lw_g (lw_at lw_m9 173 rfl) rfl
theorem q2243 : (Jvm.Cond.code ({ cls := "ArmsHouseModel", name := "size", desc := "(II)I" } : Jvm.MethodName) prog_20_method_77_code (3 : Nat) (Option.some Jvm.ClassFile.FieldType.int)) ∈ lw_all := lw_g (lw_at lw_m9 174 rfl) rfl
theorem q2244 : (Jvm.Cond.methodLink "ArmsHouseLaw" (84 : Nat) ({ cls := "ArmsHouseModel", name := "person", desc := "(ZIIII)I" } : Jvm.MethodName)) ∈ lw_all := lw_g (lw_at lw_m9 175 rfl) rfl
theorem q2245 : (Jvm.Cond.instanceMethod ({ cls := "ArmsHouseModel", name := "person", desc := "(ZIIII)I" } : Jvm.MethodName)) ∈ lw_all := lw_g (lw_at lw_m9 176 rfl) rfl
theorem q2246 : (Jvm.Cond.selects "ArmsHouseModel" ({ cls := "ArmsHouseModel", name := "person", desc := "(ZIIII)I" } : Jvm.MethodName) ({ cls := "ArmsHouseModel", name := "person", desc := "(ZIIII)I" } : Jvm.MethodName)) ∈ lw_all := lw_g (lw_at lw_m9 177 rfl) rfl
theorem q2247 : (Jvm.Cond.code ({ cls := "ArmsHouseModel", name := "person", desc := "(ZIIII)I" } : Jvm.MethodName) prog_20_method_80_code (6 : Nat) (Option.some Jvm.ClassFile.FieldType.int)) ∈ lw_all := lw_g (lw_at lw_m9 178 rfl) rfl
theorem q2248 : (Jvm.Cond.methodLink "ArmsHouseModel" (504 : Nat) ({ cls := "ArmsHouseModel", name := "isPerson", desc := "(I)Z" } : Jvm.MethodName)) ∈ lw_all := lw_g (lw_at lw_m9 179 rfl) rfl
theorem q2250 : (Jvm.Cond.instanceMethod ({ cls := "ArmsHouseModel", name := "isPerson", desc := "(I)Z" } : Jvm.MethodName)) ∈ lw_all := lw_g (lw_at lw_m9 181 rfl) rfl
theorem q2251 : (Jvm.Cond.code ({ cls := "ArmsHouseModel", name := "isPerson", desc := "(I)Z" } : Jvm.MethodName) prog_20_method_79_code (2 : Nat) (Option.some Jvm.ClassFile.FieldType.boolean)) ∈ lw_all := lw_g (lw_at lw_m9 182 rfl) rfl
theorem q2252 : (Jvm.Cond.methodLink "ArmsHouseModel" (507 : Nat) ({ cls := "ArmsHouseModel", name := "isDay", desc := "(I)Z" } : Jvm.MethodName)) ∈ lw_all := lw_g (lw_at lw_m9 183 rfl) rfl
theorem q2253 : (Jvm.Cond.static ({ cls := "ArmsHouseModel", name := "isDay", desc := "(I)Z" } : Jvm.MethodName)) ∈ lw_all := lw_g (lw_at lw_m9 184 rfl) rfl
theorem q2254 : (Jvm.Cond.code ({ cls := "ArmsHouseModel", name := "isDay", desc := "(I)Z" } : Jvm.MethodName) prog_20_method_78_code (1 : Nat) (Option.some Jvm.ClassFile.FieldType.boolean)) ∈ lw_all := lw_g (lw_at lw_m9 185 rfl) rfl
theorem q2255 : (Jvm.Cond.methodLink "ArmsHouseLaw" (88 : Nat) ({ cls := "ArmsHouseModel", name := "dies", desc := "(II)I" } : Jvm.MethodName)) ∈ lw_all := lw_g (lw_at lw_m9 186 rfl) rfl
theorem q2256 : (Jvm.Cond.instanceMethod ({ cls := "ArmsHouseModel", name := "dies", desc := "(II)I" } : Jvm.MethodName)) ∈ lw_all := lw_g (lw_at lw_m9 187 rfl) rfl
theorem q2257 : (Jvm.Cond.selects "ArmsHouseModel" ({ cls := "ArmsHouseModel", name := "dies", desc := "(II)I" } : Jvm.MethodName) ({ cls := "ArmsHouseModel", name := "dies", desc := "(II)I" } : Jvm.MethodName)) ∈ lw_all := lw_g (lw_at lw_m9 188 rfl) rfl
theorem q2258 : (Jvm.Cond.code ({ cls := "ArmsHouseModel", name := "dies", desc := "(II)I" } : Jvm.MethodName) prog_20_method_81_code (3 : Nat) (Option.some Jvm.ClassFile.FieldType.int)) ∈ lw_all := lw_g (lw_at lw_m9 189 rfl) rfl
theorem q2259 : (Jvm.Cond.methodLink "ArmsHouseLaw" (92 : Nat) ({ cls := "ArmsHouseModel", name := "quarter", desc := "(III)I" } : Jvm.MethodName)) ∈ lw_all := lw_g (lw_at lw_m9 190 rfl) rfl
theorem q2260 : (Jvm.Cond.instanceMethod ({ cls := "ArmsHouseModel", name := "quarter", desc := "(III)I" } : Jvm.MethodName)) ∈ lw_all := lw_g (lw_at lw_m9 191 rfl) rfl
theorem q2261 : (Jvm.Cond.selects "ArmsHouseModel" ({ cls := "ArmsHouseModel", name := "quarter", desc := "(III)I" } : Jvm.MethodName) ({ cls := "ArmsHouseModel", name := "quarter", desc := "(III)I" } : Jvm.MethodName)) ∈ lw_all := lw_g (lw_at lw_m9 192 rfl) rfl
theorem q2262 : (Jvm.Cond.code ({ cls := "ArmsHouseModel", name := "quarter", desc := "(III)I" } : Jvm.MethodName) prog_20_method_86_code (4 : Nat) (Option.some Jvm.ClassFile.FieldType.int)) ∈ lw_all := lw_g (lw_at lw_m9 193 rfl) rfl
theorem q2263 : (Jvm.Cond.methodLink "ArmsHouseModel" (519 : Nat) ({ cls := "ArmsHouseModel", name := "quartersOf", desc := "(II)V" } : Jvm.MethodName)) ∈ lw_all := lw_g (lw_at lw_m9 194 rfl) rfl
theorem q2265 : (Jvm.Cond.instanceMethod ({ cls := "ArmsHouseModel", name := "quartersOf", desc := "(II)V" } : Jvm.MethodName)) ∈ lw_all := lw_g (lw_at lw_m9 196 rfl) rfl
theorem q2266 : (Jvm.Cond.code ({ cls := "ArmsHouseModel", name := "quartersOf", desc := "(II)V" } : Jvm.MethodName) prog_20_method_85_code (4 : Nat) (Option.none : Option Jvm.ClassFile.FieldType)) ∈ lw_all := lw_g (lw_at lw_m9 197 rfl) rfl
theorem q2267 : (Jvm.Cond.methodLink "ArmsHouseModel" (513 : Nat) ({ cls := "ArmsHouseModel", name := "gather", desc := "(II)V" } : Jvm.MethodName)) ∈ lw_all := lw_g (lw_at lw_m9 198 rfl) rfl
theorem q2269 : (Jvm.Cond.instanceMethod ({ cls := "ArmsHouseModel", name := "gather", desc := "(II)V" } : Jvm.MethodName)) ∈ lw_all := lw_g (lw_at lw_m9 200 rfl) rfl
theorem q2270 : (Jvm.Cond.code ({ cls := "ArmsHouseModel", name := "gather", desc := "(II)V" } : Jvm.MethodName) prog_20_method_84_code (5 : Nat) (Option.none : Option Jvm.ClassFile.FieldType)) ∈ lw_all := lw_g (lw_at lw_m9 201 rfl) rfl
theorem q2271 : (Jvm.Cond.methodLink "ArmsHouseModel" (516 : Nat) ({ cls := "ArmsHouseModel", name := "isHeiress", desc := "(II)Z" } : Jvm.MethodName)) ∈ lw_all := lw_g (lw_at lw_m9 202 rfl) rfl
theorem q2273 : (Jvm.Cond.instanceMethod ({ cls := "ArmsHouseModel", name := "isHeiress", desc := "(II)Z" } : Jvm.MethodName)) ∈ lw_all := lw_g (lw_at lw_m9 204 rfl) rfl
theorem q2274 : (Jvm.Cond.code ({ cls := "ArmsHouseModel", name := "isHeiress", desc := "(II)Z" } : Jvm.MethodName) prog_20_method_83_code (4 : Nat) (Option.some Jvm.ClassFile.FieldType.boolean)) ∈ lw_all := lw_g (lw_at lw_m9 205 rfl) rfl
theorem q2275 : (Jvm.Cond.methodLink "ArmsHouseLaw" (96 : Nat) ({ cls := "ArmsHouseModel", name := "mark", desc := "(III)I" } : Jvm.MethodName)) ∈ lw_all := lw_g (lw_at lw_m9 206 rfl) rfl
theorem q2276 : (Jvm.Cond.instanceMethod ({ cls := "ArmsHouseModel", name := "mark", desc := "(III)I" } : Jvm.MethodName)) ∈ lw_all := lw_g (lw_at lw_m9 207 rfl) rfl
theorem q2277 : (Jvm.Cond.selects "ArmsHouseModel" ({ cls := "ArmsHouseModel", name := "mark", desc := "(III)I" } : Jvm.MethodName) ({ cls := "ArmsHouseModel", name := "mark", desc := "(III)I" } : Jvm.MethodName)) ∈ lw_all := lw_g (lw_at lw_m9 208 rfl) rfl
theorem q2278 : (Jvm.Cond.code ({ cls := "ArmsHouseModel", name := "mark", desc := "(III)I" } : Jvm.MethodName) prog_20_method_89_code (4 : Nat) (Option.some Jvm.ClassFile.FieldType.int)) ∈ lw_all := lw_g (lw_at lw_m9 209 rfl) rfl
theorem q2279 : (Jvm.Cond.methodLink "ArmsHouseModel" (525 : Nat) ({ cls := "ArmsHouseModel", name := "forefather", desc := "(II)I" } : Jvm.MethodName)) ∈ lw_all := lw_g (lw_at lw_m9 210 rfl) rfl
theorem q2281 : (Jvm.Cond.instanceMethod ({ cls := "ArmsHouseModel", name := "forefather", desc := "(II)I" } : Jvm.MethodName)) ∈ lw_all := lw_g (lw_at lw_m9 212 rfl) rfl
theorem q2282 : (Jvm.Cond.code ({ cls := "ArmsHouseModel", name := "forefather", desc := "(II)I" } : Jvm.MethodName) prog_20_method_88_code (5 : Nat) (Option.some Jvm.ClassFile.FieldType.int)) ∈ lw_all := lw_g (lw_at lw_m9 213 rfl) rfl
theorem q2283 : (Jvm.Cond.methodLink "ArmsHouseModel" (528 : Nat) ({ cls := "ArmsHouseModel", name := "markOf", desc := "(II)I" } : Jvm.MethodName)) ∈ lw_all := lw_g (lw_at lw_m9 214 rfl) rfl
theorem q2285 : (Jvm.Cond.instanceMethod ({ cls := "ArmsHouseModel", name := "markOf", desc := "(II)I" } : Jvm.MethodName)) ∈ lw_all := lw_g (lw_at lw_m9 216 rfl) rfl
theorem q2286 : (Jvm.Cond.code ({ cls := "ArmsHouseModel", name := "markOf", desc := "(II)I" } : Jvm.MethodName) prog_20_method_87_code (5 : Nat) (Option.some Jvm.ClassFile.FieldType.int)) ∈ lw_all := lw_g (lw_at lw_m9 217 rfl) rfl
theorem q2287 : (Jvm.Cond.methodLink "ArmsHouseModel" (522 : Nat) ({ cls := "ArmsHouseModel", name := "lives", desc := "(II)Z" } : Jvm.MethodName)) ∈ lw_all := lw_g (lw_at lw_m9 218 rfl) rfl
theorem q2289 : (Jvm.Cond.instanceMethod ({ cls := "ArmsHouseModel", name := "lives", desc := "(II)Z" } : Jvm.MethodName)) ∈ lw_all := lw_g (lw_at lw_m9 220 rfl) rfl
theorem q2290 : (Jvm.Cond.code ({ cls := "ArmsHouseModel", name := "lives", desc := "(II)Z" } : Jvm.MethodName) prog_20_method_82_code (3 : Nat) (Option.some Jvm.ClassFile.FieldType.boolean)) ∈ lw_all := lw_g (lw_at lw_m9 221 rfl) rfl
theorem q2291 : (Jvm.Cond.methodLink "ArmsHouseLaw" (100 : Nat) ({ cls := "ArmsHouseModel", name := "clashes", desc := "(I)I" } : Jvm.MethodName)) ∈ lw_all := lw_g (lw_at lw_m9 222 rfl) rfl
theorem q2292 : (Jvm.Cond.instanceMethod ({ cls := "ArmsHouseModel", name := "clashes", desc := "(I)I" } : Jvm.MethodName)) ∈ lw_all := lw_g (lw_at lw_m9 223 rfl) rfl
theorem q2293 : (Jvm.Cond.selects "ArmsHouseModel" ({ cls := "ArmsHouseModel", name := "clashes", desc := "(I)I" } : Jvm.MethodName) ({ cls := "ArmsHouseModel", name := "clashes", desc := "(I)I" } : Jvm.MethodName)) ∈ lw_all := lw_g (lw_at lw_m9 224 rfl) rfl
theorem q2294 : (Jvm.Cond.code ({ cls := "ArmsHouseModel", name := "clashes", desc := "(I)I" } : Jvm.MethodName) prog_20_method_92_code (2 : Nat) (Option.some Jvm.ClassFile.FieldType.int)) ∈ lw_all := lw_g (lw_at lw_m9 225 rfl) rfl
theorem q2295 : (Jvm.Cond.methodLink "ArmsHouseModel" (537 : Nat) ({ cls := "ArmsHouseModel", name := "clashOf", desc := "(II)I" } : Jvm.MethodName)) ∈ lw_all := lw_g (lw_at lw_m9 226 rfl) rfl
theorem q2297 : (Jvm.Cond.instanceMethod ({ cls := "ArmsHouseModel", name := "clashOf", desc := "(II)I" } : Jvm.MethodName)) ∈ lw_all := lw_g (lw_at lw_m9 228 rfl) rfl
theorem q2298 : (Jvm.Cond.code ({ cls := "ArmsHouseModel", name := "clashOf", desc := "(II)I" } : Jvm.MethodName) prog_20_method_91_code (6 : Nat) (Option.some Jvm.ClassFile.FieldType.int)) ∈ lw_all := lw_g (lw_at lw_m9 229 rfl) rfl
theorem q2299 : (Jvm.Cond.methodLink "ArmsHouseModel" (534 : Nat) ({ cls := "ArmsHouseModel", name := "areClash", desc := "(III)Z" } : Jvm.MethodName)) ∈ lw_all := lw_g (lw_at lw_m9 230 rfl) rfl
theorem q2301 : (Jvm.Cond.instanceMethod ({ cls := "ArmsHouseModel", name := "areClash", desc := "(III)Z" } : Jvm.MethodName)) ∈ lw_all := lw_g (lw_at lw_m9 232 rfl) rfl
theorem q2302 : (Jvm.Cond.code ({ cls := "ArmsHouseModel", name := "areClash", desc := "(III)Z" } : Jvm.MethodName) prog_20_method_90_code (7 : Nat) (Option.some Jvm.ClassFile.FieldType.boolean)) ∈ lw_all := lw_g (lw_at lw_m9 233 rfl) rfl
theorem q2303 : (Jvm.Cond.methodLink "ArmsHouseLaw" (104 : Nat) ({ cls := "ArmsHouseModel", name := "clash", desc := "(II)I" } : Jvm.MethodName)) ∈ lw_all := lw_g (lw_at lw_m9 234 rfl) rfl
theorem q2304 : (Jvm.Cond.instanceMethod ({ cls := "ArmsHouseModel", name := "clash", desc := "(II)I" } : Jvm.MethodName)) ∈ lw_all := lw_g (lw_at lw_m9 235 rfl) rfl
theorem q2305 : (Jvm.Cond.selects "ArmsHouseModel" ({ cls := "ArmsHouseModel", name := "clash", desc := "(II)I" } : Jvm.MethodName) ({ cls := "ArmsHouseModel", name := "clash", desc := "(II)I" } : Jvm.MethodName)) ∈ lw_all := lw_g (lw_at lw_m9 236 rfl) rfl
theorem q2306 : (Jvm.Cond.code ({ cls := "ArmsHouseModel", name := "clash", desc := "(II)I" } : Jvm.MethodName) prog_20_method_93_code (4 : Nat) (Option.some Jvm.ClassFile.FieldType.int)) ∈ lw_all := lw_g (lw_at lw_m9 237 rfl) rfl
theorem q2307 : (Jvm.Cond.methodLink "ArmsHouseLaw" (108 : Nat) ({ cls := "ArmsHouseModel", name := "enter", desc := "(II)I" } : Jvm.MethodName)) ∈ lw_all := lw_g (lw_at lw_m9 238 rfl) rfl
theorem q2308 : (Jvm.Cond.instanceMethod ({ cls := "ArmsHouseModel", name := "enter", desc := "(II)I" } : Jvm.MethodName)) ∈ lw_all := lw_g (lw_at lw_m9 239 rfl) rfl
theorem q2309 : (Jvm.Cond.selects "ArmsHouseModel" ({ cls := "ArmsHouseModel", name := "enter", desc := "(II)I" } : Jvm.MethodName) ({ cls := "ArmsHouseModel", name := "enter", desc := "(II)I" } : Jvm.MethodName)) ∈ lw_all := lw_g (lw_at lw_m10 0 rfl) rfl
theorem q2310 : (Jvm.Cond.code ({ cls := "ArmsHouseModel", name := "enter", desc := "(II)I" } : Jvm.MethodName) prog_20_method_94_code (3 : Nat) (Option.some Jvm.ClassFile.FieldType.int)) ∈ lw_all := lw_g (lw_at lw_m10 1 rfl) rfl
theorem q2311 : (Jvm.Cond.methodLink "ArmsHouseLaw" (112 : Nat) ({ cls := "ArmsHouseModel", name := "strike", desc := "(II)I" } : Jvm.MethodName)) ∈ lw_all := lw_g (lw_at lw_m10 2 rfl) rfl
theorem q2312 : (Jvm.Cond.instanceMethod ({ cls := "ArmsHouseModel", name := "strike", desc := "(II)I" } : Jvm.MethodName)) ∈ lw_all := lw_g (lw_at lw_m10 3 rfl) rfl
theorem q2313 : (Jvm.Cond.selects "ArmsHouseModel" ({ cls := "ArmsHouseModel", name := "strike", desc := "(II)I" } : Jvm.MethodName) ({ cls := "ArmsHouseModel", name := "strike", desc := "(II)I" } : Jvm.MethodName)) ∈ lw_all := lw_g (lw_at lw_m10 4 rfl) rfl
theorem q2314 : (Jvm.Cond.code ({ cls := "ArmsHouseModel", name := "strike", desc := "(II)I" } : Jvm.MethodName) prog_20_method_95_code (3 : Nat) (Option.some Jvm.ClassFile.FieldType.int)) ∈ lw_all := lw_g (lw_at lw_m10 5 rfl) rfl
theorem q2315 : (Jvm.Cond.methodLink "ArmsHouseLaw" (116 : Nat) ({ cls := "ArmsHouseModel", name := "points", desc := "(II)I" } : Jvm.MethodName)) ∈ lw_all := lw_g (lw_at lw_m10 6 rfl) rfl
theorem q2316 : (Jvm.Cond.instanceMethod ({ cls := "ArmsHouseModel", name := "points", desc := "(II)I" } : Jvm.MethodName)) ∈ lw_all := lw_g (lw_at lw_m10 7 rfl) rfl
theorem q2317 : (Jvm.Cond.selects "ArmsHouseModel" ({ cls := "ArmsHouseModel", name := "points", desc := "(II)I" } : Jvm.MethodName) ({ cls := "ArmsHouseModel", name := "points", desc := "(II)I" } : Jvm.MethodName)) ∈ lw_all := lw_g (lw_at lw_m10 8 rfl) rfl
theorem q2318 : (Jvm.Cond.code ({ cls := "ArmsHouseModel", name := "points", desc := "(II)I" } : Jvm.MethodName) prog_20_method_99_code (3 : Nat) (Option.some Jvm.ClassFile.FieldType.int)) ∈ lw_all := lw_g (lw_at lw_m10 9 rfl) rfl
theorem q2319 : (Jvm.Cond.methodLink "ArmsHouseModel" (549 : Nat) ({ cls := "ArmsHouseModel", name := "pointsOf", desc := "(II)I" } : Jvm.MethodName)) ∈ lw_all := lw_g (lw_at lw_m10 10 rfl) rfl
theorem q2321 : (Jvm.Cond.instanceMethod ({ cls := "ArmsHouseModel", name := "pointsOf", desc := "(II)I" } : Jvm.MethodName)) ∈ lw_all := lw_g (lw_at lw_m10 12 rfl) rfl
theorem q2322 : (Jvm.Cond.code ({ cls := "ArmsHouseModel", name := "pointsOf", desc := "(II)I" } : Jvm.MethodName) prog_20_method_97_code (7 : Nat) (Option.some Jvm.ClassFile.FieldType.int)) ∈ lw_all := lw_g (lw_at lw_m10 13 rfl) rfl
theorem q2323 : (Jvm.Cond.methodLink "ArmsHouseModel" (543 : Nat) ({ cls := "ArmsHouseModel", name := "unlike", desc := "(II)I" } : Jvm.MethodName)) ∈ lw_all := lw_g (lw_at lw_m10 14 rfl) rfl
theorem q2324 : (Jvm.Cond.static ({ cls := "ArmsHouseModel", name := "unlike", desc := "(II)I" } : Jvm.MethodName)) ∈ lw_all := lw_g (lw_at lw_m10 15 rfl) rfl
theorem q2325 : (Jvm.Cond.code ({ cls := "ArmsHouseModel", name := "unlike", desc := "(II)I" } : Jvm.MethodName) prog_20_method_96_code (2 : Nat) (Option.some Jvm.ClassFile.FieldType.int)) ∈ lw_all := lw_g (lw_at lw_m10 16 rfl) rfl
theorem q2326 : (Jvm.Cond.methodLink "ArmsHouseModel" (546 : Nat) ({ cls := "ArmsHouseModel", name := "layerPoints", desc := "(III)I" } : Jvm.MethodName)) ∈ lw_all := lw_g (lw_at lw_m10 17 rfl) rfl
theorem q2328 : (Jvm.Cond.instanceMethod ({ cls := "ArmsHouseModel", name := "layerPoints", desc := "(III)I" } : Jvm.MethodName)) ∈ lw_all := lw_g (lw_at lw_m10 19 rfl) rfl
theorem q2329 : (Jvm.Cond.code ({ cls := "ArmsHouseModel", name := "layerPoints", desc := "(III)I" } : Jvm.MethodName) prog_20_method_98_code (8 : Nat) (Option.some Jvm.ClassFile.FieldType.int)) ∈ lw_all := lw_g (lw_at lw_m10 20 rfl) rfl
theorem q2330 : (Jvm.Cond.methodLink "ArmsHouseLaw" (120 : Nat) ({ cls := "ArmsHouseModel", name := "conflicts", desc := "(II)I" } : Jvm.MethodName)) ∈ lw_all := lw_g (lw_at lw_m10 21 rfl) rfl
theorem q2331 : (Jvm.Cond.instanceMethod ({ cls := "ArmsHouseModel", name := "conflicts", desc := "(II)I" } : Jvm.MethodName)) ∈ lw_all := lw_g (lw_at lw_m10 22 rfl) rfl
theorem q2332 : (Jvm.Cond.selects "ArmsHouseModel" ({ cls := "ArmsHouseModel", name := "conflicts", desc := "(II)I" } : Jvm.MethodName) ({ cls := "ArmsHouseModel", name := "conflicts", desc := "(II)I" } : Jvm.MethodName)) ∈ lw_all := lw_g (lw_at lw_m10 23 rfl) rfl
theorem q2333 : (Jvm.Cond.code ({ cls := "ArmsHouseModel", name := "conflicts", desc := "(II)I" } : Jvm.MethodName) prog_20_method_102_code (4 : Nat) (Option.some Jvm.ClassFile.FieldType.int)) ∈ lw_all := lw_g (lw_at lw_m10 24 rfl) rfl
theorem q2334 : (Jvm.Cond.methodLink "ArmsHouseModel" (555 : Nat) ({ cls := "ArmsHouseModel", name := "conflictOf", desc := "(III)I" } : Jvm.MethodName)) ∈ lw_all := lw_g (lw_at lw_m10 25 rfl) rfl
theorem q2336 : (Jvm.Cond.instanceMethod ({ cls := "ArmsHouseModel", name := "conflictOf", desc := "(III)I" } : Jvm.MethodName)) ∈ lw_all := lw_g (lw_at lw_m10 27 rfl) rfl
theorem q2337 : (Jvm.Cond.code ({ cls := "ArmsHouseModel", name := "conflictOf", desc := "(III)I" } : Jvm.MethodName) prog_20_method_101_code (6 : Nat) (Option.some Jvm.ClassFile.FieldType.int)) ∈ lw_all := lw_g (lw_at lw_m10 28 rfl) rfl
theorem q2338 : (Jvm.Cond.methodLink "ArmsHouseModel" (552 : Nat) ({ cls := "ArmsHouseModel", name := "stands", desc := "(II)Z" } : Jvm.MethodName)) ∈ lw_all := lw_g (lw_at lw_m10 29 rfl) rfl
theorem q2340 : (Jvm.Cond.instanceMethod ({ cls := "ArmsHouseModel", name := "stands", desc := "(II)Z" } : Jvm.MethodName)) ∈ lw_all := lw_g (lw_at lw_m10 31 rfl) rfl
theorem q2341 : (Jvm.Cond.code ({ cls := "ArmsHouseModel", name := "stands", desc := "(II)Z" } : Jvm.MethodName) prog_20_method_100_code (3 : Nat) (Option.some Jvm.ClassFile.FieldType.boolean)) ∈ lw_all := lw_g (lw_at lw_m10 32 rfl) rfl
theorem q2342 : (Jvm.Cond.methodLink "ArmsHouseLaw" (124 : Nat) ({ cls := "ArmsHouseModel", name := "conflict", desc := "(III)I" } : Jvm.MethodName)) ∈ lw_all := lw_g (lw_at lw_m10 33 rfl) rfl
theorem q2343 : (Jvm.Cond.instanceMethod ({ cls := "ArmsHouseModel", name := "conflict", desc := "(III)I" } : Jvm.MethodName)) ∈ lw_all := lw_g (lw_at lw_m10 34 rfl) rfl
theorem q2344 : (Jvm.Cond.selects "ArmsHouseModel" ({ cls := "ArmsHouseModel", name := "conflict", desc := "(III)I" } : Jvm.MethodName) ({ cls := "ArmsHouseModel", name := "conflict", desc := "(III)I" } : Jvm.MethodName)) ∈ lw_all := lw_g (lw_at lw_m10 35 rfl) rfl
theorem q2345 : (Jvm.Cond.code ({ cls := "ArmsHouseModel", name := "conflict", desc := "(III)I" } : Jvm.MethodName) prog_20_method_103_code (5 : Nat) (Option.some Jvm.ClassFile.FieldType.int)) ∈ lw_all := lw_g (lw_at lw_m10 36 rfl) rfl
theorem q2346 : (Jvm.Cond.methodLink "ArmsHouseLaw" (128 : Nat) ({ cls := "ArmsHouseModel", name := "clear", desc := "(II)I" } : Jvm.MethodName)) ∈ lw_all := lw_g (lw_at lw_m10 37 rfl) rfl
theorem q2347 : (Jvm.Cond.instanceMethod ({ cls := "ArmsHouseModel", name := "clear", desc := "(II)I" } : Jvm.MethodName)) ∈ lw_all := lw_g (lw_at lw_m10 38 rfl) rfl
theorem q2348 : (Jvm.Cond.selects "ArmsHouseModel" ({ cls := "ArmsHouseModel", name := "clear", desc := "(II)I" } : Jvm.MethodName) ({ cls := "ArmsHouseModel", name := "clear", desc := "(II)I" } : Jvm.MethodName)) ∈ lw_all := lw_g (lw_at lw_m10 39 rfl) rfl
theorem q2349 : (Jvm.Cond.code ({ cls := "ArmsHouseModel", name := "clear", desc := "(II)I" } : Jvm.MethodName) prog_20_method_107_code (3 : Nat) (Option.some Jvm.ClassFile.FieldType.int)) ∈ lw_all := lw_g (lw_at lw_m10 40 rfl) rfl
theorem q2350 : (Jvm.Cond.methodLink "ArmsHouseModel" (561 : Nat) ({ cls := "ArmsHouseModel", name := "isClear", desc := "(II)Z" } : Jvm.MethodName)) ∈ lw_all := lw_g (lw_at lw_m10 41 rfl) rfl
theorem q2352 : (Jvm.Cond.instanceMethod ({ cls := "ArmsHouseModel", name := "isClear", desc := "(II)Z" } : Jvm.MethodName)) ∈ lw_all := lw_g (lw_at lw_m10 43 rfl) rfl
theorem q2353 : (Jvm.Cond.code ({ cls := "ArmsHouseModel", name := "isClear", desc := "(II)Z" } : Jvm.MethodName) prog_20_method_105_code (3 : Nat) (Option.some Jvm.ClassFile.FieldType.boolean)) ∈ lw_all := lw_g (lw_at lw_m10 44 rfl) rfl
theorem q2354 : (Jvm.Cond.methodLink "ArmsHouseModel" (564 : Nat) ({ cls := "ArmsHouseModel", name := "spotsOf", desc := "(I)V" } : Jvm.MethodName)) ∈ lw_all := lw_g (lw_at lw_m10 45 rfl) rfl
theorem q2356 : (Jvm.Cond.instanceMethod ({ cls := "ArmsHouseModel", name := "spotsOf", desc := "(I)V" } : Jvm.MethodName)) ∈ lw_all := lw_g (lw_at lw_m10 47 rfl) rfl
theorem q2357 : (Jvm.Cond.code ({ cls := "ArmsHouseModel", name := "spotsOf", desc := "(I)V" } : Jvm.MethodName) prog_20_method_104_code (3 : Nat) (Option.none : Option Jvm.ClassFile.FieldType)) ∈ lw_all := lw_g (lw_at lw_m10 48 rfl) rfl
theorem q2358 : (Jvm.Cond.methodLink "ArmsHouseModel" (567 : Nat) ({ cls := "ArmsHouseModel", name := "changes", desc := "(II)Z" } : Jvm.MethodName)) ∈ lw_all := lw_g (lw_at lw_m10 49 rfl) rfl
theorem q2360 : (Jvm.Cond.instanceMethod ({ cls := "ArmsHouseModel", name := "changes", desc := "(II)Z" } : Jvm.MethodName)) ∈ lw_all := lw_g (lw_at lw_m10 51 rfl) rfl
theorem q2361 : (Jvm.Cond.code ({ cls := "ArmsHouseModel", name := "changes", desc := "(II)Z" } : Jvm.MethodName) prog_20_method_106_code (9 : Nat) (Option.some Jvm.ClassFile.FieldType.boolean)) ∈ lw_all := lw_g (lw_at lw_m10 52 rfl) rfl
theorem q2362 : (Jvm.Cond.methodLink "ArmsHouseLaw" (132 : Nat) ({ cls := "ArmsHouseModel", name := "clause", desc := "()I" } : Jvm.MethodName)) ∈ lw_all := lw_g (lw_at lw_m10 53 rfl) rfl
theorem q2363 : (Jvm.Cond.instanceMethod ({ cls := "ArmsHouseModel", name := "clause", desc := "()I" } : Jvm.MethodName)) ∈ lw_all := lw_g (lw_at lw_m10 54 rfl) rfl
theorem q2364 : (Jvm.Cond.selects "ArmsHouseModel" ({ cls := "ArmsHouseModel", name := "clause", desc := "()I" } : Jvm.MethodName) ({ cls := "ArmsHouseModel", name := "clause", desc := "()I" } : Jvm.MethodName)) ∈ lw_all := lw_g (lw_at lw_m10 55 rfl) rfl
theorem q2365 : (Jvm.Cond.code ({ cls := "ArmsHouseModel", name := "clause", desc := "()I" } : Jvm.MethodName) prog_20_method_121_code (3 : Nat) (Option.some Jvm.ClassFile.FieldType.int)) ∈ lw_all := lw_g (lw_at lw_m10 56 rfl) rfl
theorem q2366 : (Jvm.Cond.methodLink "ArmsHouseModel" (632 : Nat) ({ cls := "ArmsHouseModel", name := "either", desc := "()I" } : Jvm.MethodName)) ∈ lw_all := lw_g (lw_at lw_m10 57 rfl) rfl
theorem q2368 : (Jvm.Cond.instanceMethod ({ cls := "ArmsHouseModel", name := "either", desc := "()I" } : Jvm.MethodName)) ∈ lw_all := lw_g (lw_at lw_m10 59 rfl) rfl
theorem q2369 : (Jvm.Cond.code ({ cls := "ArmsHouseModel", name := "either", desc := "()I" } : Jvm.MethodName) prog_20_method_112_code (4 : Nat) (Option.some Jvm.ClassFile.FieldType.int)) ∈ lw_all := lw_g (lw_at lw_m10 60 rfl) rfl
theorem q2370 : (Jvm.Cond.methodLink "ArmsHouseModel" (600 : Nat) ({ cls := "ArmsHouseModel", name := "deeper", desc := "(Z)V" } : Jvm.MethodName)) ∈ lw_all := lw_g (lw_at lw_m10 61 rfl) rfl
theorem q2372 : (Jvm.Cond.instanceMethod ({ cls := "ArmsHouseModel", name := "deeper", desc := "(Z)V" } : Jvm.MethodName)) ∈ lw_all := lw_g (lw_at lw_m10 63 rfl) rfl
theorem q2373 : (Jvm.Cond.code ({ cls := "ArmsHouseModel", name := "deeper", desc := "(Z)V" } : Jvm.MethodName) prog_20_method_111_code (2 : Nat) (Option.none : Option Jvm.ClassFile.FieldType)) ∈ lw_all := lw_g (lw_at lw_m10 64 rfl) rfl
theorem q2374 : (Jvm.Cond.methodLink "ArmsHouseModel" (593 : Nat) ({ cls := "ArmsHouseModel", name := "begins", desc := "(Z)Z" } : Jvm.MethodName)) ∈ lw_all := lw_g (lw_at lw_m10 65 rfl) rfl
theorem q2376 : (Jvm.Cond.instanceMethod ({ cls := "ArmsHouseModel", name := "begins", desc := "(Z)Z" } : Jvm.MethodName)) ∈ lw_all := lw_g (lw_at lw_m10 67 rfl) rfl
theorem q2377 : (Jvm.Cond.code ({ cls := "ArmsHouseModel", name := "begins", desc := "(Z)Z" } : Jvm.MethodName) prog_20_method_110_code (3 : Nat) (Option.some Jvm.ClassFile.FieldType.boolean)) ∈ lw_all := lw_g (lw_at lw_m10 68 rfl) rfl
theorem q2378 : (Jvm.Cond.constantLong "ArmsHouseModel" (579 : Nat) (3369766 : Int64)) ∈ lw_all := lw_g (lw_at lw_m10 69 rfl) rfl
theorem q2379 : (Jvm.Cond.constantLong "ArmsHouseModel" (581 : Nat) (173214550 : Int64)) ∈ lw_all := lw_g (lw_at lw_m10 70 rfl) rfl
theorem q2380 : (Jvm.Cond.constantLong "ArmsHouseModel" (583 : Nat) (27966616219 : Int64)) ∈ lw_all := lw_g (lw_at lw_m10 71 rfl) rfl
theorem q2381 : (Jvm.Cond.constantLong "ArmsHouseModel" (585 : Nat) (15091 : Int64)) ∈ lw_all := lw_g (lw_at lw_m10 72 rfl) rfl
theorem q2382 : (Jvm.Cond.constantLong "ArmsHouseModel" (587 : Nat) (10631 : Int64)) ∈ lw_all := lw_g (lw_at lw_m10 73 rfl) rfl
theorem q2383 : (Jvm.Cond.constantLong "ArmsHouseModel" (589 : Nat) (40 : Int64)) ∈ lw_all := lw_g (lw_at lw_m10 74 rfl) rfl
theorem q2384 : (Jvm.Cond.constantLong "ArmsHouseModel" (591 : Nat) (45 : Int64)) ∈ lw_all := lw_g (lw_at lw_m10 75 rfl) rfl
theorem q2385 : (Jvm.Cond.methodLink "ArmsHouseModel" (604 : Nat) ({ cls := "ArmsHouseModel", name := "both", desc := "()I" } : Jvm.MethodName)) ∈ lw_all := lw_g (lw_at lw_m10 76 rfl) rfl
theorem q2387 : (Jvm.Cond.instanceMethod ({ cls := "ArmsHouseModel", name := "both", desc := "()I" } : Jvm.MethodName)) ∈ lw_all := lw_g (lw_at lw_m10 78 rfl) rfl
theorem q2388 : (Jvm.Cond.code ({ cls := "ArmsHouseModel", name := "both", desc := "()I" } : Jvm.MethodName) prog_20_method_113_code (4 : Nat) (Option.some Jvm.ClassFile.FieldType.int)) ∈ lw_all := lw_g (lw_at lw_m10 79 rfl) rfl
theorem q2389 : (Jvm.Cond.methodLink "ArmsHouseModel" (614 : Nat) ({ cls := "ArmsHouseModel", name := "neither", desc := "()I" } : Jvm.MethodName)) ∈ lw_all := lw_g (lw_at lw_m10 80 rfl) rfl
theorem q2391 : (Jvm.Cond.instanceMethod ({ cls := "ArmsHouseModel", name := "neither", desc := "()I" } : Jvm.MethodName)) ∈ lw_all := lw_g (lw_at lw_m10 82 rfl) rfl
theorem q2392 : (Jvm.Cond.code ({ cls := "ArmsHouseModel", name := "neither", desc := "()I" } : Jvm.MethodName) prog_20_method_114_code (3 : Nat) (Option.some Jvm.ClassFile.FieldType.int)) ∈ lw_all := lw_g (lw_at lw_m10 83 rfl) rfl
theorem q2393 : (Jvm.Cond.methodLink "ArmsHouseModel" (607 : Nat) ({ cls := "ArmsHouseModel", name := "countPart", desc := "()V" } : Jvm.MethodName)) ∈ lw_all := lw_g (lw_at lw_m10 84 rfl) rfl
theorem q2395 : (Jvm.Cond.instanceMethod ({ cls := "ArmsHouseModel", name := "countPart", desc := "()V" } : Jvm.MethodName)) ∈ lw_all := lw_g (lw_at lw_m10 86 rfl) rfl
theorem q2396 : (Jvm.Cond.code ({ cls := "ArmsHouseModel", name := "countPart", desc := "()V" } : Jvm.MethodName) prog_20_method_109_code (1 : Nat) (Option.none : Option Jvm.ClassFile.FieldType)) ∈ lw_all := lw_g (lw_at lw_m10 87 rfl) rfl
theorem q2397 : (Jvm.Cond.methodLink "ArmsHouseModel" (610 : Nat) ({ cls := "ArmsHouseModel", name := "part", desc := "(IIII)I" } : Jvm.MethodName)) ∈ lw_all := lw_g (lw_at lw_m10 88 rfl) rfl
theorem q2399 : (Jvm.Cond.instanceMethod ({ cls := "ArmsHouseModel", name := "part", desc := "(IIII)I" } : Jvm.MethodName)) ∈ lw_all := lw_g (lw_at lw_m10 90 rfl) rfl
theorem q2400 : (Jvm.Cond.code ({ cls := "ArmsHouseModel", name := "part", desc := "(IIII)I" } : Jvm.MethodName) prog_20_method_108_code (6 : Nat) (Option.some Jvm.ClassFile.FieldType.int)) ∈ lw_all := lw_g (lw_at lw_m10 91 rfl) rfl
theorem q2401 : (Jvm.Cond.methodLink "ArmsHouseModel" (617 : Nat) ({ cls := "ArmsHouseModel", name := "compared", desc := "()I" } : Jvm.MethodName)) ∈ lw_all := lw_g (lw_at lw_m10 92 rfl) rfl
theorem q2403 : (Jvm.Cond.instanceMethod ({ cls := "ArmsHouseModel", name := "compared", desc := "()I" } : Jvm.MethodName)) ∈ lw_all := lw_g (lw_at lw_m10 94 rfl) rfl
theorem q2404 : (Jvm.Cond.code ({ cls := "ArmsHouseModel", name := "compared", desc := "()I" } : Jvm.MethodName) prog_20_method_115_code (5 : Nat) (Option.some Jvm.ClassFile.FieldType.int)) ∈ lw_all := lw_g (lw_at lw_m10 95 rfl) rfl
theorem q2405 : (Jvm.Cond.methodLink "ArmsHouseModel" (620 : Nat) ({ cls := "ArmsHouseModel", name := "sums", desc := "()I" } : Jvm.MethodName)) ∈ lw_all := lw_g (lw_at lw_m10 96 rfl) rfl
theorem q2407 : (Jvm.Cond.instanceMethod ({ cls := "ArmsHouseModel", name := "sums", desc := "()I" } : Jvm.MethodName)) ∈ lw_all := lw_g (lw_at lw_m10 98 rfl) rfl
theorem q2408 : (Jvm.Cond.code ({ cls := "ArmsHouseModel", name := "sums", desc := "()I" } : Jvm.MethodName) prog_20_method_117_code (5 : Nat) (Option.some Jvm.ClassFile.FieldType.int)) ∈ lw_all := lw_g (lw_at lw_m10 99 rfl) rfl
theorem q2409 : (Jvm.Cond.methodLink "ArmsHouseModel" (626 : Nat) ({ cls := "ArmsHouseModel", name := "products", desc := "()I" } : Jvm.MethodName)) ∈ lw_all := lw_g (lw_at lw_m10 100 rfl) rfl
theorem q2411 : (Jvm.Cond.instanceMethod ({ cls := "ArmsHouseModel", name := "products", desc := "()I" } : Jvm.MethodName)) ∈ lw_all := lw_g (lw_at lw_m10 102 rfl) rfl
theorem q2412 : (Jvm.Cond.code ({ cls := "ArmsHouseModel", name := "products", desc := "()I" } : Jvm.MethodName) prog_20_method_118_code (5 : Nat) (Option.some Jvm.ClassFile.FieldType.int)) ∈ lw_all := lw_g (lw_at lw_m10 103 rfl) rfl
theorem q2413 : (Jvm.Cond.methodLink "ArmsHouseModel" (629 : Nat) ({ cls := "ArmsHouseModel", name := "unit", desc := "()I" } : Jvm.MethodName)) ∈ lw_all := lw_g (lw_at lw_m10 104 rfl) rfl
theorem q2415 : (Jvm.Cond.instanceMethod ({ cls := "ArmsHouseModel", name := "unit", desc := "()I" } : Jvm.MethodName)) ∈ lw_all := lw_g (lw_at lw_m10 106 rfl) rfl
theorem q2416 : (Jvm.Cond.code ({ cls := "ArmsHouseModel", name := "unit", desc := "()I" } : Jvm.MethodName) prog_20_method_119_code (3 : Nat) (Option.some Jvm.ClassFile.FieldType.int)) ∈ lw_all := lw_g (lw_at lw_m10 107 rfl) rfl
theorem q2417 : (Jvm.Cond.methodLink "ArmsHouseModel" (635 : Nat) ({ cls := "ArmsHouseModel", name := "sign", desc := "(I)V" } : Jvm.MethodName)) ∈ lw_all := lw_g (lw_at lw_m10 108 rfl) rfl
theorem q2419 : (Jvm.Cond.instanceMethod ({ cls := "ArmsHouseModel", name := "sign", desc := "(I)V" } : Jvm.MethodName)) ∈ lw_all := lw_g (lw_at lw_m10 110 rfl) rfl
theorem q2420 : (Jvm.Cond.code ({ cls := "ArmsHouseModel", name := "sign", desc := "(I)V" } : Jvm.MethodName) prog_20_method_25_code (2 : Nat) (Option.none : Option Jvm.ClassFile.FieldType)) ∈ lw_all := lw_g (lw_at lw_m10 111 rfl) rfl
theorem q2421 : (Jvm.Cond.methodLink "ArmsHouseModel" (638 : Nat) ({ cls := "ArmsHouseModel", name := "plain", desc := "(I)I" } : Jvm.MethodName)) ∈ lw_all := lw_g (lw_at lw_m10 112 rfl) rfl
theorem q2423 : (Jvm.Cond.instanceMethod ({ cls := "ArmsHouseModel", name := "plain", desc := "(I)I" } : Jvm.MethodName)) ∈ lw_all := lw_g (lw_at lw_m10 114 rfl) rfl
theorem q2424 : (Jvm.Cond.code ({ cls := "ArmsHouseModel", name := "plain", desc := "(I)I" } : Jvm.MethodName) prog_20_method_120_code (4 : Nat) (Option.some Jvm.ClassFile.FieldType.int)) ∈ lw_all := lw_g (lw_at lw_m10 115 rfl) rfl
theorem q2425 : (Jvm.Cond.constantLong "ArmsHouseModel" (641 : Nat) (107681 : Int64)) ∈ lw_all := lw_g (lw_at lw_m10 116 rfl) rfl
theorem q2426 : (Jvm.Cond.methodLink "ArmsHouseModel" (623 : Nat) ({ cls := "ArmsHouseModel", name := "signed", desc := "(IIII)I" } : Jvm.MethodName)) ∈ lw_all := lw_g (lw_at lw_m10 117 rfl) rfl
theorem q2428 : (Jvm.Cond.instanceMethod ({ cls := "ArmsHouseModel", name := "signed", desc := "(IIII)I" } : Jvm.MethodName)) ∈ lw_all := lw_g (lw_at lw_m10 119 rfl) rfl
theorem q2429 : (Jvm.Cond.code ({ cls := "ArmsHouseModel", name := "signed", desc := "(IIII)I" } : Jvm.MethodName) prog_20_method_116_code (6 : Nat) (Option.some Jvm.ClassFile.FieldType.int)) ∈ lw_all := lw_g (lw_at lw_m10 120 rfl) rfl
theorem q2430 : (Jvm.Cond.methodLink "ArmsHouseLaw" (136 : Nat) ({ cls := "ArmsHouseModel", name := "ask", desc := "(II)I" } : Jvm.MethodName)) ∈ lw_all := lw_g (lw_at lw_m10 121 rfl) rfl
theorem q2431 : (Jvm.Cond.instanceMethod ({ cls := "ArmsHouseModel", name := "ask", desc := "(II)I" } : Jvm.MethodName)) ∈ lw_all := lw_g (lw_at lw_m10 122 rfl) rfl
theorem q2432 : (Jvm.Cond.selects "ArmsHouseModel" ({ cls := "ArmsHouseModel", name := "ask", desc := "(II)I" } : Jvm.MethodName) ({ cls := "ArmsHouseModel", name := "ask", desc := "(II)I" } : Jvm.MethodName)) ∈ lw_all := lw_g (lw_at lw_m10 123 rfl) rfl
theorem q2433 : (Jvm.Cond.code ({ cls := "ArmsHouseModel", name := "ask", desc := "(II)I" } : Jvm.MethodName) prog_20_method_131_code (4 : Nat) (Option.some Jvm.ClassFile.FieldType.int)) ∈ lw_all := lw_g (lw_at lw_m10 124 rfl) rfl
theorem q2434 : (Jvm.Cond.methodLink "ArmsHouseModel" (682 : Nat) ({ cls := "ArmsHouseModel", name := "tells", desc := "(II)I" } : Jvm.MethodName)) ∈ lw_all := lw_g (lw_at lw_m10 125 rfl) rfl
theorem q2436 : (Jvm.Cond.instanceMethod ({ cls := "ArmsHouseModel", name := "tells", desc := "(II)I" } : Jvm.MethodName)) ∈ lw_all := lw_g (lw_at lw_m10 127 rfl) rfl
theorem q2437 : (Jvm.Cond.code ({ cls := "ArmsHouseModel", name := "tells", desc := "(II)I" } : Jvm.MethodName) prog_20_method_129_code (3 : Nat) (Option.some Jvm.ClassFile.FieldType.int)) ∈ lw_all := lw_g (lw_at lw_m10 128 rfl) rfl
theorem q2438 : (Jvm.Cond.methodLink "ArmsHouseModel" (667 : Nat) ({ cls := "ArmsHouseModel", name := "work", desc := "(I)V" } : Jvm.MethodName)) ∈ lw_all := lw_g (lw_at lw_m10 129 rfl) rfl
theorem q2440 : (Jvm.Cond.instanceMethod ({ cls := "ArmsHouseModel", name := "work", desc := "(I)V" } : Jvm.MethodName)) ∈ lw_all := lw_g (lw_at lw_m10 131 rfl) rfl
theorem q2441 : (Jvm.Cond.code ({ cls := "ArmsHouseModel", name := "work", desc := "(I)V" } : Jvm.MethodName) prog_20_method_124_code (3 : Nat) (Option.none : Option Jvm.ClassFile.FieldType)) ∈ lw_all := lw_g (lw_at lw_m10 132 rfl) rfl
theorem q2442 : (Jvm.Cond.methodLink "ArmsHouseModel" (658 : Nat) ({ cls := "ArmsHouseModel", name := "workSign", desc := "(II)V" } : Jvm.MethodName)) ∈ lw_all := lw_g (lw_at lw_m10 133 rfl) rfl
theorem q2444 : (Jvm.Cond.instanceMethod ({ cls := "ArmsHouseModel", name := "workSign", desc := "(II)V" } : Jvm.MethodName)) ∈ lw_all := lw_g (lw_at lw_m10 135 rfl) rfl
theorem q2445 : (Jvm.Cond.code ({ cls := "ArmsHouseModel", name := "workSign", desc := "(II)V" } : Jvm.MethodName) prog_20_method_126_code (8 : Nat) (Option.none : Option Jvm.ClassFile.FieldType)) ∈ lw_all := lw_g (lw_at lw_m10 136 rfl) rfl
theorem q2446 : (Jvm.Cond.methodLink "ArmsHouseModel" (661 : Nat) ({ cls := "ArmsHouseModel", name := "whole", desc := "(J)V" } : Jvm.MethodName)) ∈ lw_all := lw_g (lw_at lw_m10 137 rfl) rfl
theorem q2448 : (Jvm.Cond.instanceMethod ({ cls := "ArmsHouseModel", name := "whole", desc := "(J)V" } : Jvm.MethodName)) ∈ lw_all := lw_g (lw_at lw_m10 139 rfl) rfl
theorem q2449 : (Jvm.Cond.code ({ cls := "ArmsHouseModel", name := "whole", desc := "(J)V" } : Jvm.MethodName) prog_20_method_123_code (3 : Nat) (Option.none : Option Jvm.ClassFile.FieldType)) ∈ lw_all := lw_g (lw_at lw_m10 140 rfl) rfl
theorem q2450 : (Jvm.Cond.methodLink "ArmsHouseModel" (676 : Nat) ({ cls := "ArmsHouseModel", name := "fail", desc := "(II)V" } : Jvm.MethodName)) ∈ lw_all := lw_g (lw_at lw_m10 141 rfl) rfl
theorem q2452 : (Jvm.Cond.instanceMethod ({ cls := "ArmsHouseModel", name := "fail", desc := "(II)V" } : Jvm.MethodName)) ∈ lw_all := lw_g (lw_at lw_m10 143 rfl) rfl
theorem q2453 : (Jvm.Cond.code ({ cls := "ArmsHouseModel", name := "fail", desc := "(II)V" } : Jvm.MethodName) prog_20_method_122_code (3 : Nat) (Option.none : Option Jvm.ClassFile.FieldType)) ∈ lw_all := lw_g (lw_at lw_m10 144 rfl) rfl
theorem q2454 : (Jvm.Cond.methodLink "ArmsHouseModel" (670 : Nat) ({ cls := "ArmsHouseModel", name := "call", desc := "(II)V" } : Jvm.MethodName)) ∈ lw_all := lw_g (lw_at lw_m10 145 rfl) rfl
theorem q2456 : (Jvm.Cond.instanceMethod ({ cls := "ArmsHouseModel", name := "call", desc := "(II)V" } : Jvm.MethodName)) ∈ lw_all := lw_g (lw_at lw_m10 147 rfl) rfl
theorem q2457 : (Jvm.Cond.code ({ cls := "ArmsHouseModel", name := "call", desc := "(II)V" } : Jvm.MethodName) prog_20_method_128_code (8 : Nat) (Option.none : Option Jvm.ClassFile.FieldType)) ∈ lw_all := lw_g (lw_at lw_m10 148 rfl) rfl
theorem q2458 : (Jvm.Cond.methodLink "ArmsHouseModel" (679 : Nat) ({ cls := "ArmsHouseModel", name := "maybe", desc := "(II)V" } : Jvm.MethodName)) ∈ lw_all := lw_g (lw_at lw_m10 149 rfl) rfl
theorem q2460 : (Jvm.Cond.instanceMethod ({ cls := "ArmsHouseModel", name := "maybe", desc := "(II)V" } : Jvm.MethodName)) ∈ lw_all := lw_g (lw_at lw_m10 151 rfl) rfl
theorem q2461 : (Jvm.Cond.code ({ cls := "ArmsHouseModel", name := "maybe", desc := "(II)V" } : Jvm.MethodName) prog_20_method_127_code (3 : Nat) (Option.none : Option Jvm.ClassFile.FieldType)) ∈ lw_all := lw_g (lw_at lw_m10 152 rfl) rfl
theorem q2462 : (Jvm.Cond.methodLink "ArmsHouseModel" (673 : Nat) ({ cls := "ArmsHouseModel", name := "only", desc := "(I)V" } : Jvm.MethodName)) ∈ lw_all := lw_g (lw_at lw_m10 153 rfl) rfl
theorem q2464 : (Jvm.Cond.instanceMethod ({ cls := "ArmsHouseModel", name := "only", desc := "(I)V" } : Jvm.MethodName)) ∈ lw_all := lw_g (lw_at lw_m10 155 rfl) rfl
theorem q2465 : (Jvm.Cond.code ({ cls := "ArmsHouseModel", name := "only", desc := "(I)V" } : Jvm.MethodName) prog_20_method_125_code (2 : Nat) (Option.none : Option Jvm.ClassFile.FieldType)) ∈ lw_all := lw_g (lw_at lw_m10 156 rfl) rfl
theorem q2466 : (Jvm.Cond.methodLink "ArmsHouseLaw" (141 : Nat) ({ cls := "ArmsHouseModel", name := "value", desc := "()J" } : Jvm.MethodName)) ∈ lw_all := lw_g (lw_at lw_m10 157 rfl) rfl
theorem q2467 : (Jvm.Cond.instanceMethod ({ cls := "ArmsHouseModel", name := "value", desc := "()J" } : Jvm.MethodName)) ∈ lw_all := lw_g (lw_at lw_m10 158 rfl) rfl
theorem q2468 : (Jvm.Cond.selects "ArmsHouseModel" ({ cls := "ArmsHouseModel", name := "value", desc := "()J" } : Jvm.MethodName) ({ cls := "ArmsHouseModel", name := "value", desc := "()J" } : Jvm.MethodName)) ∈ lw_all := lw_g (lw_at lw_m10 159 rfl) rfl
theorem q2469 : (Jvm.Cond.code ({ cls := "ArmsHouseModel", name := "value", desc := "()J" } : Jvm.MethodName) prog_20_method_132_code (1 : Nat) (Option.some Jvm.ClassFile.FieldType.long)) ∈ lw_all := lw_g (lw_at lw_m10 160 rfl) rfl
theorem q2470 : (Jvm.Cond.methodLink "ArmsHouseLaw" (145 : Nat) ({ cls := "ArmsHouseModel", name := "failedAt", desc := "()I" } : Jvm.MethodName)) ∈ lw_all := lw_g (lw_at lw_m10 161 rfl) rfl
theorem q2471 : (Jvm.Cond.instanceMethod ({ cls := "ArmsHouseModel", name := "failedAt", desc := "()I" } : Jvm.MethodName)) ∈ lw_all := lw_g (lw_at lw_m10 162 rfl) rfl
theorem q2472 : (Jvm.Cond.selects "ArmsHouseModel" ({ cls := "ArmsHouseModel", name := "failedAt", desc := "()I" } : Jvm.MethodName) ({ cls := "ArmsHouseModel", name := "failedAt", desc := "()I" } : Jvm.MethodName)) ∈ lw_all := lw_g (lw_at lw_m10 163 rfl) rfl
theorem q2473 : (Jvm.Cond.code ({ cls := "ArmsHouseModel", name := "failedAt", desc := "()I" } : Jvm.MethodName) prog_20_method_133_code (1 : Nat) (Option.some Jvm.ClassFile.FieldType.int)) ∈ lw_all := lw_g (lw_at lw_m10 164 rfl) rfl
theorem q2474 : (Jvm.Cond.methodLink "ArmsHouseLaw" (149 : Nat) ({ cls := "ArmsHouseModel", name := "family", desc := "(I)I" } : Jvm.MethodName)) ∈ lw_all := lw_g (lw_at lw_m10 165 rfl) rfl
theorem q2475 : (Jvm.Cond.instanceMethod ({ cls := "ArmsHouseModel", name := "family", desc := "(I)I" } : Jvm.MethodName)) ∈ lw_all := lw_g (lw_at lw_m10 166 rfl) rfl
theorem q2476 : (Jvm.Cond.selects "ArmsHouseModel" ({ cls := "ArmsHouseModel", name := "family", desc := "(I)I" } : Jvm.MethodName) ({ cls := "ArmsHouseModel", name := "family", desc := "(I)I" } : Jvm.MethodName)) ∈ lw_all := lw_g (lw_at lw_m10 167 rfl) rfl
theorem q2477 : (Jvm.Cond.code ({ cls := "ArmsHouseModel", name := "family", desc := "(I)I" } : Jvm.MethodName) prog_20_method_136_code (2 : Nat) (Option.some Jvm.ClassFile.FieldType.int)) ∈ lw_all := lw_g (lw_at lw_m10 168 rfl) rfl
theorem q2478 : (Jvm.Cond.methodLink "ArmsHouseLaw" (153 : Nat) ({ cls := "ArmsHouseModel", name := "at", desc := "(I)I" } : Jvm.MethodName)) ∈ lw_all := lw_g (lw_at lw_m10 169 rfl) rfl
theorem q2479 : (Jvm.Cond.instanceMethod ({ cls := "ArmsHouseModel", name := "at", desc := "(I)I" } : Jvm.MethodName)) ∈ lw_all := lw_g (lw_at lw_m10 170 rfl) rfl
theorem q2480 : (Jvm.Cond.selects "ArmsHouseModel" ({ cls := "ArmsHouseModel", name := "at", desc := "(I)I" } : Jvm.MethodName) ({ cls := "ArmsHouseModel", name := "at", desc := "(I)I" } : Jvm.MethodName)) ∈ lw_all := lw_g (lw_at lw_m10 171 rfl) rfl
theorem q2481 : (Jvm.Cond.code ({ cls := "ArmsHouseModel", name := "at", desc := "(I)I" } : Jvm.MethodName) prog_20_method_137_code (2 : Nat) (Option.some Jvm.ClassFile.FieldType.int)) ∈ lw_all := lw_g (lw_at lw_m10 172 rfl) rfl
theorem q2482 : (Jvm.Cond.methodLink "ArmsHouseLaw" (157 : Nat) ({ cls := "ArmsHouseModel", name := "rank", desc := "(I)I" } : Jvm.MethodName)) ∈ lw_all := lw_g (lw_at lw_m10 173 rfl) rfl
theorem q2483 : (Jvm.Cond.instanceMethod ({ cls := "ArmsHouseModel", name := "rank", desc := "(I)I" } : Jvm.MethodName)) ∈ lw_all := lw_g (lw_at lw_m10 174 rfl) rfl
theorem q2484 : (Jvm.Cond.selects "ArmsHouseModel" ({ cls := "ArmsHouseModel", name := "rank", desc := "(I)I" } : Jvm.MethodName) ({ cls := "ArmsHouseModel", name := "rank", desc := "(I)I" } : Jvm.MethodName)) ∈ lw_all := lw_g (lw_at lw_m10 175 rfl) rfl
theorem q2485 : (Jvm.Cond.code ({ cls := "ArmsHouseModel", name := "rank", desc := "(I)I" } : Jvm.MethodName) prog_20_method_138_code (2 : Nat) (Option.some Jvm.ClassFile.FieldType.int)) ∈ lw_all := lw_g (lw_at lw_m10 176 rfl) rfl
theorem q2486 : (Jvm.Cond.methodLink "ArmsHouseLaw" (162 : Nat) ({ cls := "ArmsHouseModel", name := "find", desc := "(IIII)I" } : Jvm.MethodName)) ∈ lw_all := lw_g (lw_at lw_m10 177 rfl) rfl
theorem q2487 : (Jvm.Cond.instanceMethod ({ cls := "ArmsHouseModel", name := "find", desc := "(IIII)I" } : Jvm.MethodName)) ∈ lw_all := lw_g (lw_at lw_m10 178 rfl) rfl
theorem q2488 : (Jvm.Cond.selects "ArmsHouseModel" ({ cls := "ArmsHouseModel", name := "find", desc := "(IIII)I" } : Jvm.MethodName) ({ cls := "ArmsHouseModel", name := "find", desc := "(IIII)I" } : Jvm.MethodName)) ∈ lw_all := lw_g (lw_at lw_m10 179 rfl) rfl
theorem q2489 : (Jvm.Cond.code ({ cls := "ArmsHouseModel", name := "find", desc := "(IIII)I" } : Jvm.MethodName) prog_20_method_141_code (6 : Nat) (Option.some Jvm.ClassFile.FieldType.int)) ∈ lw_all := lw_g (lw_at lw_m10 180 rfl) rfl
theorem q2490 : (Jvm.Cond.methodLink "ArmsHouseModel" (694 : Nat) ({ cls := "ArmsHouseModel", name := "isClause", desc := "(I)Z" } : Jvm.MethodName)) ∈ lw_all := lw_g (lw_at lw_m10 181 rfl) rfl
theorem q2492 : (Jvm.Cond.instanceMethod ({ cls := "ArmsHouseModel", name := "isClause", desc := "(I)Z" } : Jvm.MethodName)) ∈ lw_all := lw_g (lw_at lw_m10 183 rfl) rfl
theorem q2493 : (Jvm.Cond.code ({ cls := "ArmsHouseModel", name := "isClause", desc := "(I)Z" } : Jvm.MethodName) prog_20_method_140_code (2 : Nat) (Option.some Jvm.ClassFile.FieldType.boolean)) ∈ lw_all := lw_g (lw_at lw_m10 184 rfl) rfl
theorem q2494 : (Jvm.Cond.methodLink "ArmsHouseModel" (697 : Nat) ({ cls := "ArmsHouseModel", name := "isMany", desc := "(I)Z" } : Jvm.MethodName)) ∈ lw_all := lw_g (lw_at lw_m10 185 rfl) rfl
theorem q2495 : (Jvm.Cond.static ({ cls := "ArmsHouseModel", name := "isMany", desc := "(I)Z" } : Jvm.MethodName)) ∈ lw_all := lw_g (lw_at lw_m10 186 rfl) rfl
theorem q2496 : (Jvm.Cond.code ({ cls := "ArmsHouseModel", name := "isMany", desc := "(I)Z" } : Jvm.MethodName) prog_20_method_139_code (1 : Nat) (Option.some Jvm.ClassFile.FieldType.boolean)) ∈ lw_all := lw_g (lw_at lw_m10 187 rfl) rfl
theorem q2497 : (Jvm.Cond.methodLink "ArmsHouseModel" (700 : Nat) ({ cls := "ArmsHouseModel", name := "isYes", desc := "(II)Z" } : Jvm.MethodName)) ∈ lw_all := lw_g (lw_at lw_m10 188 rfl) rfl
theorem q2499 : (Jvm.Cond.instanceMethod ({ cls := "ArmsHouseModel", name := "isYes", desc := "(II)Z" } : Jvm.MethodName)) ∈ lw_all := lw_g (lw_at lw_m10 190 rfl) rfl
theorem q2500 : (Jvm.Cond.code ({ cls := "ArmsHouseModel", name := "isYes", desc := "(II)Z" } : Jvm.MethodName) prog_20_method_130_code (3 : Nat) (Option.some Jvm.ClassFile.FieldType.boolean)) ∈ lw_all := lw_g (lw_at lw_m10 191 rfl) rfl
theorem q2501 : (Jvm.Cond.methodLink "ArmsHouseLaw" (166 : Nat) ({ cls := "ArmsHouseModel", name := "tally", desc := "(III)I" } : Jvm.MethodName)) ∈ lw_all := lw_g (lw_at lw_m10 192 rfl) rfl
theorem q2502 : (Jvm.Cond.instanceMethod ({ cls := "ArmsHouseModel", name := "tally", desc := "(III)I" } : Jvm.MethodName)) ∈ lw_all := lw_g (lw_at lw_m10 193 rfl) rfl
theorem q2503 : (Jvm.Cond.selects "ArmsHouseModel" ({ cls := "ArmsHouseModel", name := "tally", desc := "(III)I" } : Jvm.MethodName) ({ cls := "ArmsHouseModel", name := "tally", desc := "(III)I" } : Jvm.MethodName)) ∈ lw_all := lw_g (lw_at lw_m10 194 rfl) rfl
theorem q2504 : (Jvm.Cond.code ({ cls := "ArmsHouseModel", name := "tally", desc := "(III)I" } : Jvm.MethodName) prog_20_method_142_code (6 : Nat) (Option.some Jvm.ClassFile.FieldType.int)) ∈ lw_all := lw_g (lw_at lw_m10 195 rfl) rfl
theorem q2505 : (Jvm.Cond.methodLink "ArmsHouseLaw" (170 : Nat) ({ cls := "ArmsHouseModel", name := "show", desc := "(III)I" } : Jvm.MethodName)) ∈ lw_all := lw_g (lw_at lw_m10 196 rfl) rfl
theorem q2506 : (Jvm.Cond.instanceMethod ({ cls := "ArmsHouseModel", name := "show", desc := "(III)I" } : Jvm.MethodName)) ∈ lw_all := lw_g (lw_at lw_m10 197 rfl) rfl
theorem q2507 : (Jvm.Cond.selects "ArmsHouseModel" ({ cls := "ArmsHouseModel", name := "show", desc := "(III)I" } : Jvm.MethodName) ({ cls := "ArmsHouseModel", name := "show", desc := "(III)I" } : Jvm.MethodName)) ∈ lw_all := lw_g (lw_at lw_m10 198 rfl) rfl
theorem q2508 : (Jvm.Cond.code ({ cls := "ArmsHouseModel", name := "show", desc := "(III)I" } : Jvm.MethodName) prog_20_method_143_code (5 : Nat) (Option.some Jvm.ClassFile.FieldType.int)) ∈ lw_all := lw_g (lw_at lw_m10 199 rfl) rfl
theorem q2509 : (Jvm.Cond.methodLink "ArmsHouseLaw" (174 : Nat) ({ cls := "ArmsHouseModel", name := "least", desc := "()I" } : Jvm.MethodName)) ∈ lw_all := lw_g (lw_at lw_m10 200 rfl) rfl
theorem q2510 : (Jvm.Cond.instanceMethod ({ cls := "ArmsHouseModel", name := "least", desc := "()I" } : Jvm.MethodName)) ∈ lw_all := lw_g (lw_at lw_m10 201 rfl) rfl
theorem q2511 : (Jvm.Cond.selects "ArmsHouseModel" ({ cls := "ArmsHouseModel", name := "least", desc := "()I" } : Jvm.MethodName) ({ cls := "ArmsHouseModel", name := "least", desc := "()I" } : Jvm.MethodName)) ∈ lw_all := lw_g (lw_at lw_m10 202 rfl) rfl
theorem q2512 : (Jvm.Cond.code ({ cls := "ArmsHouseModel", name := "least", desc := "()I" } : Jvm.MethodName) prog_20_method_144_code (1 : Nat) (Option.some Jvm.ClassFile.FieldType.int)) ∈ lw_all := lw_g (lw_at lw_m10 203 rfl) rfl
theorem q2513 : (Jvm.Cond.methodLink "ArmsHouseLaw" (178 : Nat) ({ cls := "ArmsHouseModel", name := "count", desc := "(I)I" } : Jvm.MethodName)) ∈ lw_all := lw_g (lw_at lw_m10 204 rfl) rfl
theorem q2514 : (Jvm.Cond.instanceMethod ({ cls := "ArmsHouseModel", name := "count", desc := "(I)I" } : Jvm.MethodName)) ∈ lw_all := lw_g (lw_at lw_m10 205 rfl) rfl
theorem q2515 : (Jvm.Cond.selects "ArmsHouseModel" ({ cls := "ArmsHouseModel", name := "count", desc := "(I)I" } : Jvm.MethodName) ({ cls := "ArmsHouseModel", name := "count", desc := "(I)I" } : Jvm.MethodName)) ∈ lw_all := lw_g (lw_at lw_m10 206 rfl) rfl
theorem q2516 : (Jvm.Cond.code ({ cls := "ArmsHouseModel", name := "count", desc := "(I)I" } : Jvm.MethodName) prog_20_method_145_code (2 : Nat) (Option.some Jvm.ClassFile.FieldType.int)) ∈ lw_all := lw_g (lw_at lw_m10 207 rfl) rfl
theorem q2517 : (Jvm.Cond.constantLong "ArmsHouseLaw" (13 : Nat) (4294967295 : Int64)) ∈ lw_all := lw_g (lw_at lw_m10 208 rfl) rfl
theorem q2518 : (Jvm.Cond.sameMethod "java/lang/Throwable" "java/lang/Throwable" "fillInStackTrace" "(I)Ljava/lang/Throwable;") ∈ lw_all := lw_g (lw_at lw_m10 209 rfl) rfl
theorem q2519 : (Jvm.Cond.sameMethod "ArmsHouse$Node" "ArmsHouse$Node" "gives" "(J)LArmsHouse$Whole;") ∈ lw_all := lw_g (lw_at lw_m10 210 rfl) rfl
theorem q2520 : (Jvm.Cond.selects "ArmsHouse$Number" ({ cls := "ArmsHouse$Node", name := "gives", desc := "(J)LArmsHouse$Whole;" } : Jvm.MethodName) ({ cls := "ArmsHouse$Node", name := "gives", desc := "(J)LArmsHouse$Whole;" } : Jvm.MethodName)) ∈ lw_all := lw_g (lw_at lw_m10 211 rfl) rfl
theorem q2521 : (Jvm.Cond.selects "ArmsHouse$One" ({ cls := "ArmsHouse$Node", name := "gives", desc := "(J)LArmsHouse$Whole;" } : Jvm.MethodName) ({ cls := "ArmsHouse$Node", name := "gives", desc := "(J)LArmsHouse$Whole;" } : Jvm.MethodName)) ∈ lw_all := lw_g (lw_at lw_m10 212 rfl) rfl
theorem q2522 : (Jvm.Cond.selects "ArmsHouse$Plain" ({ cls := "ArmsHouse$Node", name := "gives", desc := "(J)LArmsHouse$Whole;" } : Jvm.MethodName) ({ cls := "ArmsHouse$Node", name := "gives", desc := "(J)LArmsHouse$Whole;" } : Jvm.MethodName)) ∈ lw_all := lw_g (lw_at lw_m10 213 rfl) rfl
theorem q2523 : (Jvm.Cond.selects "ArmsHouse$Try" ({ cls := "ArmsHouse$Node", name := "gives", desc := "(J)LArmsHouse$Whole;" } : Jvm.MethodName) ({ cls := "ArmsHouse$Node", name := "gives", desc := "(J)LArmsHouse$Whole;" } : Jvm.MethodName)) ∈ lw_all := lw_g (lw_at lw_m10 214 rfl) rfl
theorem q2524 : (Jvm.Cond.selects "ArmsHouse$Two" ({ cls := "ArmsHouse$Node", name := "gives", desc := "(J)LArmsHouse$Whole;" } : Jvm.MethodName) ({ cls := "ArmsHouse$Node", name := "gives", desc := "(J)LArmsHouse$Whole;" } : Jvm.MethodName)) ∈ lw_all := lw_g (lw_at lw_m10 215 rfl) rfl
theorem q2525 : (Jvm.Cond.sameMethod "ArmsHouse$Node" "ArmsHouse$Node" "whole" "(Ljava/lang/Object;)J") ∈ lw_all := lw_g (lw_at lw_m10 216 rfl) rfl
theorem q2526 : (Jvm.Cond.selects "ArmsHouse$Number" ({ cls := "ArmsHouse$Node", name := "whole", desc := "(Ljava/lang/Object;)J" } : Jvm.MethodName) ({ cls := "ArmsHouse$Node", name := "whole", desc := "(Ljava/lang/Object;)J" } : Jvm.MethodName)) ∈ lw_all := lw_g (lw_at lw_m10 217 rfl) rfl
theorem q2527 : (Jvm.Cond.selects "ArmsHouse$One" ({ cls := "ArmsHouse$Node", name := "whole", desc := "(Ljava/lang/Object;)J" } : Jvm.MethodName) ({ cls := "ArmsHouse$Node", name := "whole", desc := "(Ljava/lang/Object;)J" } : Jvm.MethodName)) ∈ lw_all := lw_g (lw_at lw_m10 218 rfl) rfl
theorem q2528 : (Jvm.Cond.selects "ArmsHouse$Plain" ({ cls := "ArmsHouse$Node", name := "whole", desc := "(Ljava/lang/Object;)J" } : Jvm.MethodName) ({ cls := "ArmsHouse$Node", name := "whole", desc := "(Ljava/lang/Object;)J" } : Jvm.MethodName)) ∈ lw_all := lw_g (lw_at lw_m10 219 rfl) rfl
theorem q2529 : (Jvm.Cond.selects "ArmsHouse$Try" ({ cls := "ArmsHouse$Node", name := "whole", desc := "(Ljava/lang/Object;)J" } : Jvm.MethodName) ({ cls := "ArmsHouse$Node", name := "whole", desc := "(Ljava/lang/Object;)J" } : Jvm.MethodName)) ∈ lw_all := lw_g (lw_at lw_m10 220 rfl) rfl
theorem q2530 : (Jvm.Cond.selects "ArmsHouse$Two" ({ cls := "ArmsHouse$Node", name := "whole", desc := "(Ljava/lang/Object;)J" } : Jvm.MethodName) ({ cls := "ArmsHouse$Node", name := "whole", desc := "(Ljava/lang/Object;)J" } : Jvm.MethodName)) ∈ lw_all := lw_g (lw_at lw_m10 221 rfl) rfl
theorem q2531 : (Jvm.Cond.castable "ArmsHouse$One" "ArmsHouse$Node") ∈ lw_tbl := lw_at lw_m10 222 rfl
theorem q2532 : (Jvm.Cond.castable "ArmsHouse$Number" "ArmsHouse$Node") ∈ lw_tbl := lw_at lw_m10 223 rfl
theorem q2533 : (Jvm.Cond.castable "ArmsHouse$Plain" "ArmsHouse$Node") ∈ lw_tbl := lw_at lw_m10 224 rfl
theorem q2534 : (Jvm.Cond.castable "ArmsHouse$Try" "ArmsHouse$Node") ∈ lw_tbl := lw_at lw_m10 225 rfl
theorem q2535 : (Jvm.Cond.castable "ArmsHouse$Two" "ArmsHouse$Node") ∈ lw_tbl := lw_at lw_m10 226 rfl
theorem q2536 : (Jvm.Cond.fieldLink "java/lang/String" (9 : Nat) "java/lang/String" "value" "[B") ∈ lw_all := lw_g (lw_at lw_m10 227 rfl) rfl
theorem q2537 : (Jvm.Cond.fieldLink "java/lang/String" (15 : Nat) "java/lang/String" "coder" "B") ∈ lw_all := lw_g (lw_at lw_m10 228 rfl) rfl
