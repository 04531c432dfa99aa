/-! classes: names, fields -/
set_option maxRecDepth 100000
def RX0 : String := "MoleBoard"
def TX0 : u_T := fun k => match k with
  | 0 => ("MoleBoard", "slots", "[LMoleBoard$Slot;", true)
  | 1 => ("MoleBoard", "now", "LMoleBoard$Board;", false)
  | 2 => ("MoleBoard", "images", "[LMoleBoard$Board;", true)
  | 3 => ("MoleBoard", "tape", "[B", true)
  | 4 => ("MoleBoard", "taped", "I", false)
  | 5 => ("MoleBoard", "faultKind", "I", false)
  | 6 => ("MoleBoard", "faultPlace", "I", false)
  | 7 => ("MoleBoard", "drumGame", "LMoleBoard$DrumGame;", true)
  | 8 => ("MoleBoard", "night", "LMoleBoard$Night;", true)
  | 9 => ("MoleBoard", "run", "LMoleBoard$Run;", true)
  | 10 => ("MoleBoard", "best", "LMoleBoard$Best;", true)
  | 11 => ("MoleBoard", "lots", "LMoleBoard$Lots;", true)
  | _ => ("MoleBoard", "blows", "LMoleBoard$Blows;", true)
def tyX0 : Nat → FieldType := fun k => match k with
  | 0 => .array (.object "MoleBoard$Slot")
  | 1 => .object "MoleBoard$Board"
  | 2 => .array (.object "MoleBoard$Board")
  | 3 => .array .byte
  | 4 => .int
  | 5 => .int
  | 6 => .int
  | 7 => .object "MoleBoard$DrumGame"
  | 8 => .object "MoleBoard$Night"
  | 9 => .object "MoleBoard$Run"
  | 10 => .object "MoleBoard$Best"
  | 11 => .object "MoleBoard$Lots"
  | _ => .object "MoleBoard$Blows"
abbrev wsX00 : List Cond := u_ws RX0 TX0 13
theorem nmX0 : ∀ a, a < 13 → ∀ b, b < 13 → a ≠ b → (TX0 a).2.1 ≠ (TX0 b).2.1 := by decide +kernel
theorem tyX0_ok : ∀ k, k < 13 → parseFieldDescriptor (TX0 k).2.2.1 = some (tyX0 k) := by decide +kernel
theorem in_X0 : ∀ w ∈ wsX00, w ∈ lw_all := lw_in wsX00 [733, 735, 737, 739, 741, 743, 745, 747, 749, 751, 753, 755, 757] (by decide +kernel) (by decide +kernel)
def RX1 : String := "MoleBoard$Slot"
def TX1 : u_T := fun k => match k with
  | _ => ("MoleBoard$Slot", "held", "Ljava/lang/Object;", false)
def tyX1 : Nat → FieldType := fun k => match k with
  | _ => .object "java/lang/Object"
abbrev wsX10 : List Cond := u_ws RX1 TX1 1
theorem nmX1 : ∀ a, a < 1 → ∀ b, b < 1 → a ≠ b → (TX1 a).2.1 ≠ (TX1 b).2.1 := by decide +kernel
theorem tyX1_ok : ∀ k, k < 1 → parseFieldDescriptor (TX1 k).2.2.1 = some (tyX1 k) := by decide +kernel
theorem in_X1 : ∀ w ∈ wsX10, w ∈ lw_all := lw_in wsX10 [397] (by decide +kernel) (by decide +kernel)
def RX2 : String := "MoleBoard$Board"
def TX2 : u_T := fun k => match k with
  | 0 => ("MoleBoard$Board", "drum", "Ljava/util/List;", true)
  | 1 => ("MoleBoard$Board", "players", "Ljava/util/List;", true)
  | 2 => ("MoleBoard$Board", "from", "[I", true)
  | 3 => ("MoleBoard$Board", "stay", "[I", true)
  | 4 => ("MoleBoard$Board", "wide", "I", false)
  | 5 => ("MoleBoard$Board", "high", "I", false)
  | 6 => ("MoleBoard$Board", "ticks", "I", false)
  | 7 => ("MoleBoard$Board", "pause", "I", false)
  | 8 => ("MoleBoard$Board", "stays", "I", false)
  | 9 => ("MoleBoard$Board", "shut", "I", false)
  | 10 => ("MoleBoard$Board", "tickets", "I", false)
  | 11 => ("MoleBoard$Board", "each", "I", false)
  | 12 => ("MoleBoard$Board", "lines", "I", false)
  | _ => ("MoleBoard$Board", "stands", "I", false)
def tyX2 : Nat → FieldType := fun k => match k with
  | 0 => .object "java/util/List"
  | 1 => .object "java/util/List"
  | 2 => .array .int
  | 3 => .array .int
  | 4 => .int
  | 5 => .int
  | 6 => .int
  | 7 => .int
  | 8 => .int
  | 9 => .int
  | 10 => .int
  | 11 => .int
  | 12 => .int
  | _ => .int
abbrev wsX20 : List Cond := u_ws RX2 TX2 14
theorem nmX2 : ∀ a, a < 14 → ∀ b, b < 14 → a ≠ b → (TX2 a).2.1 ≠ (TX2 b).2.1 := by decide +kernel
theorem tyX2_ok : ∀ k, k < 14 → parseFieldDescriptor (TX2 k).2.2.1 = some (tyX2 k) := by decide +kernel
theorem in_X2 : ∀ w ∈ wsX20, w ∈ lw_all := lw_in wsX20 [479, 481, 483, 485, 487, 489, 491, 493, 495, 497, 499, 501, 503, 505] (by decide +kernel) (by decide +kernel)
def RJ0 : String := "java/util/AbstractCollection"
def RJ1 : String := "java/util/AbstractList"
def RJ2 : String := "java/util/ArrayList"
def TJ2 : u_T := fun k => match k with
  | 0 => ("java/util/AbstractList", "modCount", "I", false)
  | 1 => ("java/util/ArrayList", "elementData", "[Ljava/lang/Object;", false)
  | _ => ("java/util/ArrayList", "size", "I", false)
def tyJ2 : Nat → FieldType := fun k => match k with
  | 0 => .int
  | 1 => .array (.object "java/lang/Object")
  | _ => .int
abbrev wsJ20 : List Cond := u_ws RJ2 TJ2 3
theorem nmJ2 : ∀ a, a < 3 → ∀ b, b < 3 → a ≠ b → (TJ2 a).2.1 ≠ (TJ2 b).2.1 := by decide +kernel
theorem tyJ2_ok : ∀ k, k < 3 → parseFieldDescriptor (TJ2 k).2.2.1 = some (tyJ2 k) := by decide +kernel
theorem in_J2 : ∀ w ∈ wsJ20, w ∈ lw_all := lw_in wsJ20 [434, 430, 432] (by decide +kernel) (by decide +kernel)
def RX3 : String := "MoleBoard$Game"
def RX4 : String := "MoleBoard$DrumGame"
def TX4 : u_T := fun k => match k with
  | 0 => ("MoleBoard$Game", "moles", "[LMoleBoard$Mole;", true)
  | 1 => ("MoleBoard$Game", "first", "[I", true)
  | 2 => ("MoleBoard$Game", "last", "[I", true)
  | 3 => ("MoleBoard$Game", "many", "I", false)
  | 4 => ("MoleBoard$Game", "this$0", "LMoleBoard;", true)
  | _ => ("MoleBoard$DrumGame", "this$0", "LMoleBoard;", true)
def tyX4 : Nat → FieldType := fun k => match k with
  | 0 => .array (.object "MoleBoard$Mole")
  | 1 => .array .int
  | 2 => .array .int
  | 3 => .int
  | 4 => .object "MoleBoard"
  | _ => .object "MoleBoard"
abbrev wsX40 : List Cond := u_ws RX4 TX4 6
theorem tyX4_ok : ∀ k, k < 6 → parseFieldDescriptor (TX4 k).2.2.1 = some (tyX4 k) := by decide +kernel
theorem in_X4 : ∀ w ∈ wsX40, w ∈ lw_all := lw_in wsX40 [543, 545, 547, 549, 551, 541] (by decide +kernel) (by decide +kernel)
def RX5 : String := "MoleBoard$Night"
def TX5 : u_T := fun k => match k with
  | 0 => ("MoleBoard$Game", "moles", "[LMoleBoard$Mole;", true)
  | 1 => ("MoleBoard$Game", "first", "[I", true)
  | 2 => ("MoleBoard$Game", "last", "[I", true)
  | 3 => ("MoleBoard$Game", "many", "I", false)
  | 4 => ("MoleBoard$Game", "this$0", "LMoleBoard;", true)
  | 5 => ("MoleBoard$Night", "row", "[I", true)
  | 6 => ("MoleBoard$Night", "law", "I", false)
  | 7 => ("MoleBoard$Night", "x", "J", false)
  | _ => ("MoleBoard$Night", "this$0", "LMoleBoard;", true)
def tyX5 : Nat → FieldType := fun k => match k with
  | 0 => .array (.object "MoleBoard$Mole")
  | 1 => .array .int
  | 2 => .array .int
  | 3 => .int
  | 4 => .object "MoleBoard"
  | 5 => .array .int
  | 6 => .int
  | 7 => .long
  | _ => .object "MoleBoard"
abbrev wsX50 : List Cond := u_ws RX5 TX5 9
theorem tyX5_ok : ∀ k, k < 9 → parseFieldDescriptor (TX5 k).2.2.1 = some (tyX5 k) := by decide +kernel
theorem in_X5 : ∀ w ∈ wsX50, w ∈ lw_all := lw_in wsX50 [572, 573, 574, 575, 576, 564, 566, 568, 570] (by decide +kernel) (by decide +kernel)
def RX6 : String := "MoleBoard$Run"
def TX6 : u_T := fun k => match k with
  | 0 => ("MoleBoard$Run", "twice", "[I", true)
  | 1 => ("MoleBoard$Run", "tick", "[I", true)
  | 2 => ("MoleBoard$Run", "spot", "[I", true)
  | 3 => ("MoleBoard$Run", "when", "[I", true)
  | 4 => ("MoleBoard$Run", "who", "LMoleBoard$Player;", false)
  | 5 => ("MoleBoard$Run", "lag", "I", false)
  | 6 => ("MoleBoard$Run", "knows", "I", false)
  | 7 => ("MoleBoard$Run", "wait", "I", false)
  | 8 => ("MoleBoard$Run", "holes", "I", false)
  | 9 => ("MoleBoard$Run", "at", "I", false)
  | 10 => ("MoleBoard$Run", "free", "I", false)
  | 11 => ("MoleBoard$Run", "hits", "I", false)
  | 12 => ("MoleBoard$Run", "reds", "I", false)
  | 13 => ("MoleBoard$Run", "strikes", "I", false)
  | 14 => ("MoleBoard$Run", "walked", "I", false)
  | 15 => ("MoleBoard$Run", "rash", "Z", false)
  | _ => ("MoleBoard$Run", "this$0", "LMoleBoard;", true)
def tyX6 : Nat → FieldType := fun k => match k with
  | 0 => .array .int
  | 1 => .array .int
  | 2 => .array .int
  | 3 => .array .int
  | 4 => .object "MoleBoard$Player"
  | 5 => .int
  | 6 => .int
  | 7 => .int
  | 8 => .int
  | 9 => .int
  | 10 => .int
  | 11 => .int
  | 12 => .int
  | 13 => .int
  | 14 => .int
  | 15 => .boolean
  | _ => .object "MoleBoard"
abbrev wsX60 : List Cond := u_ws RX6 TX6 17
theorem nmX6 : ∀ a, a < 17 → ∀ b, b < 17 → a ≠ b → (TX6 a).2.1 ≠ (TX6 b).2.1 := by decide +kernel
theorem tyX6_ok : ∀ k, k < 17 → parseFieldDescriptor (TX6 k).2.2.1 = some (tyX6 k) := by decide +kernel
theorem in_X6 : ∀ w ∈ wsX60, w ∈ lw_all := lw_in wsX60 [613, 615, 617, 619, 621, 623, 625, 627, 629, 631, 633, 635, 637, 639, 641, 643, 645] (by decide +kernel) (by decide +kernel)
def RX7 : String := "MoleBoard$Best"
def TX7 : u_T := fun k => match k with
  | 0 => ("MoleBoard$Best", "free", "[[I", true)
  | 1 => ("MoleBoard$Best", "then", "[[I", true)
  | 2 => ("MoleBoard$Best", "who", "LMoleBoard$Player;", false)
  | 3 => ("MoleBoard$Best", "g", "LMoleBoard$Game;", false)
  | _ => ("MoleBoard$Best", "this$0", "LMoleBoard;", true)
def tyX7 : Nat → FieldType := fun k => match k with
  | 0 => .array (.array .int)
  | 1 => .array (.array .int)
  | 2 => .object "MoleBoard$Player"
  | 3 => .object "MoleBoard$Game"
  | _ => .object "MoleBoard"
abbrev wsX70 : List Cond := u_ws RX7 TX7 5
theorem nmX7 : ∀ a, a < 5 → ∀ b, b < 5 → a ≠ b → (TX7 a).2.1 ≠ (TX7 b).2.1 := by decide +kernel
theorem tyX7_ok : ∀ k, k < 5 → parseFieldDescriptor (TX7 k).2.2.1 = some (tyX7 k) := by decide +kernel
theorem in_X7 : ∀ w ∈ wsX70, w ∈ lw_all := lw_in wsX70 [661, 663, 665, 667, 669] (by decide +kernel) (by decide +kernel)
def RX8 : String := "MoleBoard$Lots"
def TX8 : u_T := fun k => match k with
  | 0 => ("MoleBoard$Lots", "rows", "[[J", true)
  | 1 => ("MoleBoard$Lots", "then", "[[J", true)
  | _ => ("MoleBoard$Lots", "this$0", "LMoleBoard;", true)
def tyX8 : Nat → FieldType := fun k => match k with
  | 0 => .array (.array .long)
  | 1 => .array (.array .long)
  | _ => .object "MoleBoard"
abbrev wsX80 : List Cond := u_ws RX8 TX8 3
theorem nmX8 : ∀ a, a < 3 → ∀ b, b < 3 → a ≠ b → (TX8 a).2.1 ≠ (TX8 b).2.1 := by decide +kernel
theorem tyX8_ok : ∀ k, k < 3 → parseFieldDescriptor (TX8 k).2.2.1 = some (tyX8 k) := by decide +kernel
theorem in_X8 : ∀ w ∈ wsX80, w ∈ lw_all := lw_in wsX80 [683, 685, 687] (by decide +kernel) (by decide +kernel)
def RX9 : String := "MoleBoard$Blows"
def TX9 : u_T := fun k => match k with
  | 0 => ("MoleBoard$Blows", "met", "[I", true)
  | 1 => ("MoleBoard$Blows", "good", "I", false)
  | 2 => ("MoleBoard$Blows", "reds", "I", false)
  | 3 => ("MoleBoard$Blows", "early", "I", false)
  | _ => ("MoleBoard$Blows", "this$0", "LMoleBoard;", true)
def tyX9 : Nat → FieldType := fun k => match k with
  | 0 => .array .int
  | 1 => .int
  | 2 => .int
  | 3 => .int
  | _ => .object "MoleBoard"
abbrev wsX90 : List Cond := u_ws RX9 TX9 5
theorem nmX9 : ∀ a, a < 5 → ∀ b, b < 5 → a ≠ b → (TX9 a).2.1 ≠ (TX9 b).2.1 := by decide +kernel
theorem tyX9_ok : ∀ k, k < 5 → parseFieldDescriptor (TX9 k).2.2.1 = some (tyX9 k) := by decide +kernel
theorem in_X9 : ∀ w ∈ wsX90, w ∈ lw_all := lw_in wsX90 [704, 706, 708, 710, 712] (by decide +kernel) (by decide +kernel)
def RX10 : String := "MoleBoardModel"
def TX10 : u_T := fun k => match k with
  | 0 => ("MoleBoardModel", "thrown", "I", false)
  | 1 => ("MoleBoardModel", "world", "[I", true)
  | 2 => ("MoleBoardModel", "images", "[I", true)
  | 3 => ("MoleBoardModel", "hasImage", "[Z", true)
  | 4 => ("MoleBoardModel", "tape", "[B", true)
  | 5 => ("MoleBoardModel", "taped", "I", false)
  | 6 => ("MoleBoardModel", "five", "[I", true)
  | 7 => ("MoleBoardModel", "size", "I", false)
  | 8 => ("MoleBoardModel", "at", "I", false)
  | 9 => ("MoleBoardModel", "from", "I", false)
  | 10 => ("MoleBoardModel", "token", "I", false)
  | 11 => ("MoleBoardModel", "value", "I", false)
  | 12 => ("MoleBoardModel", "faultKind", "I", false)
  | 13 => ("MoleBoardModel", "faultPlace", "I", false)
  | 14 => ("MoleBoardModel", "fresh", "[I", true)
  | 15 => ("MoleBoardModel", "game", "[I", true)
  | 16 => ("MoleBoardModel", "tickOf", "[I", true)
  | 17 => ("MoleBoardModel", "lastOf", "[I", true)
  | 18 => ("MoleBoardModel", "gameMany", "I", false)
  | 19 => ("MoleBoardModel", "runner", "I", false)
  | 20 => ("MoleBoardModel", "runLag", "I", false)
  | 21 => ("MoleBoardModel", "runKnows", "I", false)
  | 22 => ("MoleBoardModel", "runWaits", "I", false)
  | 23 => ("MoleBoardModel", "runHoles", "I", false)
  | 24 => ("MoleBoardModel", "runRed", "Z", false)
  | 25 => ("MoleBoardModel", "hitMany", "[I", true)
  | 26 => ("MoleBoardModel", "hitTick", "[I", true)
  | 27 => ("MoleBoardModel", "strikeTick", "[I", true)
  | 28 => ("MoleBoardModel", "strikeHole", "[I", true)
  | 29 => ("MoleBoardModel", "strikes", "I", false)
  | 30 => ("MoleBoardModel", "redHits", "I", false)
  | 31 => ("MoleBoardModel", "place", "I", false)
  | 32 => ("MoleBoardModel", "free", "I", false)
  | 33 => ("MoleBoardModel", "wentSteps", "I", false)
  | 34 => ("MoleBoardModel", "freeBy", "[I", true)
  | 35 => ("MoleBoardModel", "freeNow", "[I", true)
  | 36 => ("MoleBoardModel", "rowsBy", "[J", true)
  | 37 => ("MoleBoardModel", "rowsNow", "[J", true)
  | 38 => ("MoleBoardModel", "hitHoles", "[I", true)
  | 39 => ("MoleBoardModel", "goodBlows", "I", false)
  | 40 => ("MoleBoardModel", "redBlows", "I", false)
  | 41 => ("MoleBoardModel", "earlyBlows", "I", false)
  | 42 => ("MoleBoardModel", "drawn", "J", false)
  | 43 => ("MoleBoardModel", "many", "[I", true)
  | 44 => ("MoleBoardModel", "width", "[I", true)
  | 45 => ("MoleBoardModel", "numbers", "[J", true)
  | _ => ("MoleBoardModel", "moving", "[J", true)
def tyX10 : Nat → FieldType := fun k => match k with
  | 0 => .int
  | 1 => .array .int
  | 2 => .array .int
  | 3 => .array .boolean
  | 4 => .array .byte
  | 5 => .int
  | 6 => .array .int
  | 7 => .int
  | 8 => .int
  | 9 => .int
  | 10 => .int
  | 11 => .int
  | 12 => .int
  | 13 => .int
  | 14 => .array .int
  | 15 => .array .int
  | 16 => .array .int
  | 17 => .array .int
  | 18 => .int
  | 19 => .int
  | 20 => .int
  | 21 => .int
  | 22 => .int
  | 23 => .int
  | 24 => .boolean
  | 25 => .array .int
  | 26 => .array .int
  | 27 => .array .int
  | 28 => .array .int
  | 29 => .int
  | 30 => .int
  | 31 => .int
  | 32 => .int
  | 33 => .int
  | 34 => .array .int
  | 35 => .array .int
  | 36 => .array .long
  | 37 => .array .long
  | 38 => .array .int
  | 39 => .int
  | 40 => .int
  | 41 => .int
  | 42 => .long
  | 43 => .array .int
  | 44 => .array .int
  | 45 => .array .long
  | _ => .array .long
abbrev wsX100 : List Cond := u_ws RX10 TX10 47
theorem nmX10 : ∀ a, a < 47 → ∀ b, b < 47 → a ≠ b → (TX10 a).2.1 ≠ (TX10 b).2.1 := by decide +kernel
theorem tyX10_ok : ∀ k, k < 47 → parseFieldDescriptor (TX10 k).2.2.1 = some (tyX10 k) := by decide +kernel
theorem in_X10 : ∀ w ∈ wsX100, w ∈ lw_all := lw_in wsX100 [1878, 1880, 1882, 1884, 1886, 1888, 1890, 1892, 1894, 1896, 1898, 1900, 1902, 1904, 1906, 1908, 1910, 1912, 1914, 1916, 1918, 1920, 1922, 1924, 1926, 1928, 1930, 1932, 1934, 1936, 1938, 1940, 1942, 1944, 1946, 1948, 1950, 1952, 1954, 1956, 1958, 1960, 1962, 1964, 1966, 1968, 1970] (by decide +kernel) (by decide +kernel)
def RX11 : String := "MoleBoard$Reader"
def TX11 : u_T := fun k => match k with
  | 0 => ("MoleBoard$Reader", "text", "[B", true)
  | 1 => ("MoleBoard$Reader", "many", "I", true)
  | 2 => ("MoleBoard$Reader", "b", "LMoleBoard$Board;", true)
  | 3 => ("MoleBoard$Reader", "at", "I", false)
  | 4 => ("MoleBoard$Reader", "begin", "I", false)
  | 5 => ("MoleBoard$Reader", "token", "I", false)
  | _ => ("MoleBoard$Reader", "value", "I", false)
def tyX11 : Nat → FieldType := fun k => match k with
  | 0 => .array .byte
  | 1 => .int
  | 2 => .object "MoleBoard$Board"
  | 3 => .int
  | 4 => .int
  | 5 => .int
  | _ => .int
abbrev wsX110 : List Cond := u_ws RX11 TX11 7
theorem nmX11 : ∀ a, a < 7 → ∀ b, b < 7 → a ≠ b → (TX11 a).2.1 ≠ (TX11 b).2.1 := by decide +kernel
theorem tyX11_ok : ∀ k, k < 7 → parseFieldDescriptor (TX11 k).2.2.1 = some (tyX11 k) := by decide +kernel
theorem in_X11 : ∀ w ∈ wsX110, w ∈ lw_all := lw_in wsX110 [801, 803, 805, 807, 809, 811, 813] (by decide +kernel) (by decide +kernel)
def RJ3 : String := "java/lang/Math"
def RJ4 : String := "java/lang/String"
def TJ4 : u_T := fun k => match k with
  | 0 => ("java/lang/String", "value", "[B", true)
  | _ => ("java/lang/String", "coder", "B", true)
def tyJ4 : Nat → FieldType := fun k => match k with
  | 0 => .array .byte
  | _ => .byte
abbrev wsJ40 : List Cond := u_ws RJ4 TJ4 2
theorem nmJ4 : ∀ a, a < 2 → ∀ b, b < 2 → a ≠ b → (TJ4 a).2.1 ≠ (TJ4 b).2.1 := by decide +kernel
theorem tyJ4_ok : ∀ k, k < 2 → parseFieldDescriptor (TJ4 k).2.2.1 = some (tyJ4 k) := by decide +kernel
theorem in_J4 : ∀ w ∈ wsJ40, w ∈ lw_all := lw_in wsJ40 [281, 283] (by decide +kernel) (by decide +kernel)
def RJ5 : String := "java/lang/StringLatin1"
def RJ6 : String := "jdk/internal/util/Preconditions"
def RJ7 : String := "java/lang/StringUTF16"
def RJ8 : String := "java/lang/Throwable"
def TJ8 : u_T := fun k => match k with
  | 0 => ("java/lang/Throwable", "cause", "Ljava/lang/Throwable;", false)
  | 1 => ("java/lang/Throwable", "stackTrace", "[Ljava/lang/StackTraceElement;", false)
  | 2 => ("java/lang/Throwable", "suppressedExceptions", "Ljava/util/List;", false)
  | 3 => ("java/lang/Throwable", "detailMessage", "Ljava/lang/String;", false)
  | _ => ("java/lang/Throwable", "backtrace", "Ljava/lang/Object;", false)
def tyJ8 : Nat → FieldType := fun k => match k with
  | 0 => .object "java/lang/Throwable"
  | 1 => .array (.object "java/lang/StackTraceElement")
  | 2 => .object "java/util/List"
  | 3 => .object "java/lang/String"
  | _ => .object "java/lang/Object"
abbrev wsJ80 : List Cond := u_ws RJ8 TJ8 5
theorem nmJ8 : ∀ a, a < 5 → ∀ b, b < 5 → a ≠ b → (TJ8 a).2.1 ≠ (TJ8 b).2.1 := by decide +kernel
theorem tyJ8_ok : ∀ k, k < 5 → parseFieldDescriptor (TJ8 k).2.2.1 = some (tyJ8 k) := by decide +kernel
theorem in_J8 : ∀ w ∈ wsJ80, w ∈ lw_all := lw_in wsJ80 [270, 271, 272, 273, 274] (by decide +kernel) (by decide +kernel)
def RJ9 : String := "java/lang/Exception"
def RJ10 : String := "java/lang/RuntimeException"
def RX12 : String := "MoleBoard$Fault"
def TX12 : u_T := fun k => match k with
  | 0 => ("java/lang/Throwable", "cause", "Ljava/lang/Throwable;", false)
  | 1 => ("java/lang/Throwable", "stackTrace", "[Ljava/lang/StackTraceElement;", false)
  | 2 => ("java/lang/Throwable", "suppressedExceptions", "Ljava/util/List;", false)
  | 3 => ("java/lang/Throwable", "detailMessage", "Ljava/lang/String;", false)
  | 4 => ("java/lang/Throwable", "backtrace", "Ljava/lang/Object;", false)
  | 5 => ("java/lang/Throwable", "depth", "I", false)
  | 6 => ("MoleBoard$Fault", "kind", "I", true)
  | _ => ("MoleBoard$Fault", "place", "I", true)
def tyX12 : Nat → FieldType := fun k => match k with
  | 0 => .object "java/lang/Throwable"
  | 1 => .array (.object "java/lang/StackTraceElement")
  | 2 => .object "java/util/List"
  | 3 => .object "java/lang/String"
  | 4 => .object "java/lang/Object"
  | 5 => .int
  | 6 => .int
  | _ => .int
abbrev wsX120 : List Cond := u_ws RX12 TX12 8
theorem nmX12 : ∀ a, a < 8 → ∀ b, b < 8 → a ≠ b → (TX12 a).2.1 ≠ (TX12 b).2.1 := by decide +kernel
theorem tyX12_ok : ∀ k, k < 8 → parseFieldDescriptor (TX12 k).2.2.1 = some (tyX12 k) := by decide +kernel
theorem in_X12 : ∀ w ∈ wsX120, w ∈ lw_all := lw_in wsX120 [889, 890, 891, 892, 893, 914, 910, 912] (by decide +kernel) (by decide +kernel)
def RJ11 : String := "java/util/ArrayList$Itr"
def TJ11 : u_T := fun k => match k with
  | 0 => ("java/util/ArrayList$Itr", "cursor", "I", false)
  | 1 => ("java/util/ArrayList$Itr", "lastRet", "I", false)
  | 2 => ("java/util/ArrayList$Itr", "expectedModCount", "I", false)
  | _ => ("java/util/ArrayList$Itr", "this$0", "Ljava/util/ArrayList;", true)
def tyJ11 : Nat → FieldType := fun k => match k with
  | 0 => .int
  | 1 => .int
  | 2 => .int
  | _ => .object "java/util/ArrayList"
abbrev wsJ110 : List Cond := u_ws RJ11 TJ11 4
theorem nmJ11 : ∀ a, a < 4 → ∀ b, b < 4 → a ≠ b → (TJ11 a).2.1 ≠ (TJ11 b).2.1 := by decide +kernel
theorem tyJ11_ok : ∀ k, k < 4 → parseFieldDescriptor (TJ11 k).2.2.1 = some (tyJ11 k) := by decide +kernel
theorem in_J11 : ∀ w ∈ wsJ110, w ∈ lw_all := lw_in wsJ110 [982, 984, 986, 988] (by decide +kernel) (by decide +kernel)
def RX13 : String := "MoleBoard$Mole"
def TX13 : u_T := fun k => match k with
  | 0 => ("MoleBoard$Mole", "hole", "I", true)
  | 1 => ("MoleBoard$Mole", "other", "I", true)
  | _ => ("MoleBoard$Mole", "red", "Z", false)
def tyX13 : Nat → FieldType := fun k => match k with
  | 0 => .int
  | 1 => .int
  | _ => .boolean
abbrev wsX130 : List Cond := u_ws RX13 TX13 3
theorem nmX13 : ∀ a, a < 3 → ∀ b, b < 3 → a ≠ b → (TX13 a).2.1 ≠ (TX13 b).2.1 := by decide +kernel
theorem tyX13_ok : ∀ k, k < 3 → parseFieldDescriptor (TX13 k).2.2.1 = some (tyX13 k) := by decide +kernel
theorem in_X13 : ∀ w ∈ wsX130, w ∈ lw_all := lw_in wsX130 [1066, 1068, 1070] (by decide +kernel) (by decide +kernel)
def RJ12 : String := "jdk/internal/util/ArraysSupport"
def RJ13 : String := "java/util/Arrays"
def RX14 : String := "MoleBoard$Player"
def TX14 : u_T := fun k => match k with
  | _ => ("MoleBoard$Player", "is", "[I", true)
def tyX14 : Nat → FieldType := fun k => match k with
  | _ => .array .int
abbrev wsX140 : List Cond := u_ws RX14 TX14 1
theorem nmX14 : ∀ a, a < 1 → ∀ b, b < 1 → a ≠ b → (TX14 a).2.1 ≠ (TX14 b).2.1 := by decide +kernel
theorem tyX14_ok : ∀ k, k < 1 → parseFieldDescriptor (TX14 k).2.2.1 = some (tyX14 k) := by decide +kernel
theorem in_X14 : ∀ w ∈ wsX140, w ∈ lw_all := lw_in wsX140 [1157] (by decide +kernel) (by decide +kernel)
def RJ14 : String := "java/util/Objects"
def RJ15 : String := "java/lang/Integer"
def RJ16 : String := "java/lang/NegativeArraySizeException"
def TJ16 : u_T := fun k => match k with
  | 0 => ("java/lang/Throwable", "backtrace", "Ljava/lang/Object;", false)
  | 1 => ("java/lang/Throwable", "detailMessage", "Ljava/lang/String;", false)
  | 2 => ("java/lang/Throwable", "cause", "Ljava/lang/Throwable;", false)
  | 3 => ("java/lang/Throwable", "stackTrace", "[Ljava/lang/StackTraceElement;", false)
  | 4 => ("java/lang/Throwable", "depth", "I", false)
  | _ => ("java/lang/Throwable", "suppressedExceptions", "Ljava/util/List;", false)
def tyJ16 : Nat → FieldType := fun k => match k with
  | 0 => .object "java/lang/Object"
  | 1 => .object "java/lang/String"
  | 2 => .object "java/lang/Throwable"
  | 3 => .array (.object "java/lang/StackTraceElement")
  | 4 => .int
  | _ => .object "java/util/List"
abbrev wsJ160 : List Cond := u_ws RJ16 TJ16 6
theorem nmJ16 : ∀ a, a < 6 → ∀ b, b < 6 → a ≠ b → (TJ16 a).2.1 ≠ (TJ16 b).2.1 := by decide +kernel
theorem tyJ16_ok : ∀ k, k < 6 → parseFieldDescriptor (TJ16 k).2.2.1 = some (tyJ16 k) := by decide +kernel
theorem in_J16 : ∀ w ∈ wsJ160, w ∈ lw_all := lw_in wsJ160 [249, 251, 253, 255, 257, 259] (by decide +kernel) (by decide +kernel)
def RJ17 : String := "java/lang/NullPointerException"
def TJ17 : u_T := fun k => match k with
  | 0 => ("java/lang/Throwable", "backtrace", "Ljava/lang/Object;", false)
  | 1 => ("java/lang/Throwable", "detailMessage", "Ljava/lang/String;", false)
  | 2 => ("java/lang/Throwable", "cause", "Ljava/lang/Throwable;", false)
  | 3 => ("java/lang/Throwable", "stackTrace", "[Ljava/lang/StackTraceElement;", false)
  | 4 => ("java/lang/Throwable", "depth", "I", false)
  | 5 => ("java/lang/Throwable", "suppressedExceptions", "Ljava/util/List;", false)
  | 6 => ("java/lang/NullPointerException", "extendedMessageState", "I", false)
  | _ => ("java/lang/NullPointerException", "extendedMessage", "Ljava/lang/String;", false)
def tyJ17 : Nat → FieldType := fun k => match k with
  | 0 => .object "java/lang/Object"
  | 1 => .object "java/lang/String"
  | 2 => .object "java/lang/Throwable"
  | 3 => .array (.object "java/lang/StackTraceElement")
  | 4 => .int
  | 5 => .object "java/util/List"
  | 6 => .int
  | _ => .object "java/lang/String"
abbrev wsJ170 : List Cond := u_ws RJ17 TJ17 8
theorem nmJ17 : ∀ a, a < 8 → ∀ b, b < 8 → a ≠ b → (TJ17 a).2.1 ≠ (TJ17 b).2.1 := by decide +kernel
theorem tyJ17_ok : ∀ k, k < 8 → parseFieldDescriptor (TJ17 k).2.2.1 = some (tyJ17 k) := by decide +kernel
theorem in_J17 : ∀ w ∈ wsJ170, w ∈ lw_all := lw_in wsJ170 [312, 313, 314, 315, 316, 317, 308, 310] (by decide +kernel) (by decide +kernel)
def RJ18 : String := "java/lang/IndexOutOfBoundsException"
def RJ19 : String := "java/lang/ArrayIndexOutOfBoundsException"
def TJ19 : u_T := fun k => match k with
  | 0 => ("java/lang/Throwable", "backtrace", "Ljava/lang/Object;", false)
  | 1 => ("java/lang/Throwable", "detailMessage", "Ljava/lang/String;", false)
  | 2 => ("java/lang/Throwable", "cause", "Ljava/lang/Throwable;", false)
  | 3 => ("java/lang/Throwable", "stackTrace", "[Ljava/lang/StackTraceElement;", false)
  | 4 => ("java/lang/Throwable", "depth", "I", false)
  | _ => ("java/lang/Throwable", "suppressedExceptions", "Ljava/util/List;", false)
def tyJ19 : Nat → FieldType := fun k => match k with
  | 0 => .object "java/lang/Object"
  | 1 => .object "java/lang/String"
  | 2 => .object "java/lang/Throwable"
  | 3 => .array (.object "java/lang/StackTraceElement")
  | 4 => .int
  | _ => .object "java/util/List"
abbrev wsJ190 : List Cond := u_ws RJ19 TJ19 6
theorem nmJ19 : ∀ a, a < 6 → ∀ b, b < 6 → a ≠ b → (TJ19 a).2.1 ≠ (TJ19 b).2.1 := by decide +kernel
theorem tyJ19_ok : ∀ k, k < 6 → parseFieldDescriptor (TJ19 k).2.2.1 = some (tyJ19 k) := by decide +kernel
theorem in_J19 : ∀ w ∈ wsJ190, w ∈ lw_all := lw_in wsJ190 [329, 330, 331, 332, 333, 334] (by decide +kernel) (by decide +kernel)
def RJ20 : String := "java/lang/ClassCastException"
def TJ20 : u_T := fun k => match k with
  | 0 => ("java/lang/Throwable", "backtrace", "Ljava/lang/Object;", false)
  | 1 => ("java/lang/Throwable", "detailMessage", "Ljava/lang/String;", false)
  | 2 => ("java/lang/Throwable", "cause", "Ljava/lang/Throwable;", false)
  | 3 => ("java/lang/Throwable", "stackTrace", "[Ljava/lang/StackTraceElement;", false)
  | 4 => ("java/lang/Throwable", "depth", "I", false)
  | _ => ("java/lang/Throwable", "suppressedExceptions", "Ljava/util/List;", false)
def tyJ20 : Nat → FieldType := fun k => match k with
  | 0 => .object "java/lang/Object"
  | 1 => .object "java/lang/String"
  | 2 => .object "java/lang/Throwable"
  | 3 => .array (.object "java/lang/StackTraceElement")
  | 4 => .int
  | _ => .object "java/util/List"
abbrev wsJ200 : List Cond := u_ws RJ20 TJ20 6
theorem nmJ20 : ∀ a, a < 6 → ∀ b, b < 6 → a ≠ b → (TJ20 a).2.1 ≠ (TJ20 b).2.1 := by decide +kernel
theorem tyJ20_ok : ∀ k, k < 6 → parseFieldDescriptor (TJ20 k).2.2.1 = some (tyJ20 k) := by decide +kernel
theorem in_J20 : ∀ w ∈ wsJ200, w ∈ lw_all := lw_in wsJ200 [356, 357, 358, 359, 360, 361] (by decide +kernel) (by decide +kernel)
def RJ21 : String := "java/lang/Object"
