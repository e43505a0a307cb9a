/-! the classes whose objects the run makes: names, field tables (by program out of claim/names) -/
set_option maxRecDepth 100000
def RX1 : String := "BlockGraph"
def TX1 : u_T := fun k => match k with
  | 0 => ("BlockGraph", "disk", "LBlockGraph$Disk;", true)
  | 1 => ("BlockGraph", "hand", "LBlockGraph$Hand;", true)
  | 2 => ("BlockGraph", "ways", "LBlockGraph$Ways;", true)
  | 3 => ("BlockGraph", "committed", "Ljava/util/TreeMap;", true)
  | 4 => ("BlockGraph", "visible", "Ljava/util/TreeMap;", true)
  | 5 => ("BlockGraph", "numbers", "Ljava/util/BitSet;", true)
  | 6 => ("BlockGraph", "operations", "Ljava/util/ArrayList;", true)
  | 7 => ("BlockGraph", "open", "Z", false)
  | 8 => ("BlockGraph", "fresh", "Z", false)
  | _ => ("BlockGraph", "transactions", "I", false)
def tyX1 : Nat → FieldType := fun k => match k with
  | 0 => .object "BlockGraph$Disk"
  | 1 => .object "BlockGraph$Hand"
  | 2 => .object "BlockGraph$Ways"
  | 3 => .object "java/util/TreeMap"
  | 4 => .object "java/util/TreeMap"
  | 5 => .object "java/util/BitSet"
  | 6 => .object "java/util/ArrayList"
  | 7 => .boolean
  | 8 => .boolean
  | _ => .int
abbrev wsX10 : List Cond := u_ws RX1 TX1 10
theorem nmX1 : ∀ a, a < 10 → ∀ b, b < 10 → a ≠ b → (TX1 a).2.1 ≠ (TX1 b).2.1 := by decide +kernel
theorem tyX1_ok : ∀ k, k < 10 → parseFieldDescriptor (TX1 k).2.2.1 = some (tyX1 k) := by decide +kernel
theorem in_X1 : ∀ w ∈ wsX10, w ∈ lw_all := lw_in wsX10 [437, 439, 441, 443, 445, 447, 449, 451, 453, 455] (by decide +kernel) (by decide +kernel)
def RX2 : String := "BlockGraph$Disk"
def TX2 : u_T := fun k => match k with
  | 0 => ("BlockGraph$Disk", "blocks", "[[I", true)
  | 1 => ("BlockGraph$Disk", "writes", "I", false)
  | 2 => ("BlockGraph$Disk", "left", "I", false)
  | _ => ("BlockGraph$Disk", "down", "Z", false)
def tyX2 : Nat → FieldType := fun k => match k with
  | 0 => .array (.array .int)
  | 1 => .int
  | 2 => .int
  | _ => .boolean
abbrev wsX20 : List Cond := u_ws RX2 TX2 4
theorem nmX2 : ∀ a, a < 4 → ∀ b, b < 4 → a ≠ b → (TX2 a).2.1 ≠ (TX2 b).2.1 := by decide +kernel
theorem tyX2_ok : ∀ k, k < 4 → parseFieldDescriptor (TX2 k).2.2.1 = some (tyX2 k) := by decide +kernel
theorem in_X2 : ∀ w ∈ wsX20, w ∈ lw_all := lw_in wsX20 [141, 143, 145, 147] (by decide +kernel) (by decide +kernel)
def RX3 : String := "BlockGraph$Hand"
def TX3 : u_T := fun k => match k with
  | 0 => ("BlockGraph$Hand", "blocks", "Ljava/util/LinkedHashMap;", true)
  | 1 => ("BlockGraph$Hand", "room", "I", false)
  | _ => ("BlockGraph$Hand", "reads", "I", false)
def tyX3 : Nat → FieldType := fun k => match k with
  | 0 => .object "java/util/LinkedHashMap"
  | 1 => .int
  | _ => .int
abbrev wsX30 : List Cond := u_ws RX3 TX3 3
theorem nmX3 : ∀ a, a < 3 → ∀ b, b < 3 → a ≠ b → (TX3 a).2.1 ≠ (TX3 b).2.1 := by decide +kernel
theorem tyX3_ok : ∀ k, k < 3 → parseFieldDescriptor (TX3 k).2.2.1 = some (tyX3 k) := by decide +kernel
theorem in_X3 : ∀ w ∈ wsX30, w ∈ lw_all := lw_in wsX30 [224, 226, 228] (by decide +kernel) (by decide +kernel)
def RX4 : String := "BlockGraph$Ways"
def TX4 : u_T := fun k => match k with
  | 0 => ("BlockGraph$Ways", "distances", "[I", true)
  | 1 => ("BlockGraph$Ways", "parents", "[I", true)
  | _ => ("BlockGraph$Ways", "from", "Ljava/util/ArrayList;", true)
def tyX4 : Nat → FieldType := fun k => match k with
  | 0 => .array .int
  | 1 => .array .int
  | _ => .object "java/util/ArrayList"
abbrev wsX40 : List Cond := u_ws RX4 TX4 3
theorem nmX4 : ∀ a, a < 3 → ∀ b, b < 3 → a ≠ b → (TX4 a).2.1 ≠ (TX4 b).2.1 := by decide +kernel
theorem tyX4_ok : ∀ k, k < 3 → parseFieldDescriptor (TX4 k).2.2.1 = some (tyX4 k) := by decide +kernel
theorem in_X4 : ∀ w ∈ wsX40, w ∈ lw_all := lw_in wsX40 [392, 394, 396] (by decide +kernel) (by decide +kernel)
def RX5 : String := "BlockGraphModel"
def TX5 : u_T := fun k => match k with
  | 0 => ("BlockGraphModel", "code", "I", false)
  | 1 => ("BlockGraphModel", "froms", "[I", true)
  | 2 => ("BlockGraphModel", "tos", "[I", true)
  | 3 => ("BlockGraphModel", "weights", "[I", true)
  | 4 => ("BlockGraphModel", "graph", "Z", false)
  | 5 => ("BlockGraphModel", "down", "Z", false)
  | 6 => ("BlockGraphModel", "open", "Z", false)
  | 7 => ("BlockGraphModel", "operations", "I", false)
  | 8 => ("BlockGraphModel", "touched", "[Z", true)
  | 9 => ("BlockGraphModel", "logged", "[Z", true)
  | 10 => ("BlockGraphModel", "full", "Z", false)
  | 11 => ("BlockGraphModel", "commits", "I", false)
  | 12 => ("BlockGraphModel", "uncounted", "I", false)
  | 13 => ("BlockGraphModel", "armed", "I", false)
  | 14 => ("BlockGraphModel", "writes", "I", false)
  | 15 => ("BlockGraphModel", "reads", "I", false)
  | 16 => ("BlockGraphModel", "hand", "[I", true)
  | 17 => ("BlockGraphModel", "hands", "I", false)
  | 18 => ("BlockGraphModel", "most", "I", false)
  | 19 => ("BlockGraphModel", "stale", "Z", false)
  | 20 => ("BlockGraphModel", "source", "I", false)
  | 21 => ("BlockGraphModel", "distances", "[I", true)
  | _ => ("BlockGraphModel", "way", "[I", true)
def tyX5 : Nat → FieldType := fun k => match k with
  | 0 => .int
  | 1 => .array .int
  | 2 => .array .int
  | 3 => .array .int
  | 4 => .boolean
  | 5 => .boolean
  | 6 => .boolean
  | 7 => .int
  | 8 => .array .boolean
  | 9 => .array .boolean
  | 10 => .boolean
  | 11 => .int
  | 12 => .int
  | 13 => .int
  | 14 => .int
  | 15 => .int
  | 16 => .array .int
  | 17 => .int
  | 18 => .int
  | 19 => .boolean
  | 20 => .int
  | 21 => .array .int
  | _ => .array .int
abbrev wsX50 : List Cond := u_ws RX5 TX5 23
theorem nmX5 : ∀ a, a < 23 → ∀ b, b < 23 → a ≠ b → (TX5 a).2.1 ≠ (TX5 b).2.1 := by decide +kernel
theorem tyX5_ok : ∀ k, k < 23 → parseFieldDescriptor (TX5 k).2.2.1 = some (tyX5 k) := by decide +kernel
theorem in_X5 : ∀ w ∈ wsX50, w ∈ lw_all := lw_in wsX50 [2908, 2910, 2912, 2914, 2916, 2918, 2920, 2922, 2924, 2926, 2928, 2930, 2932, 2934, 2936, 2938, 2940, 2942, 2944, 2946, 2948, 2950, 2952] (by decide +kernel) (by decide +kernel)
def RX6 : String := "BlockGraph$Operation"
def TX6 : u_T := fun k => match k with
  | 0 => ("BlockGraph$Operation", "number", "I", true)
  | _ => ("BlockGraph$Operation", "edge", "LBlockGraph$Edge;", true)
def tyX6 : Nat → FieldType := fun k => match k with
  | 0 => .int
  | _ => .object "BlockGraph$Edge"
abbrev wsX60 : List Cond := u_ws RX6 TX6 2
theorem nmX6 : ∀ a, a < 2 → ∀ b, b < 2 → a ≠ b → (TX6 a).2.1 ≠ (TX6 b).2.1 := by decide +kernel
theorem tyX6_ok : ∀ k, k < 2 → parseFieldDescriptor (TX6 k).2.2.1 = some (tyX6 k) := by decide +kernel
theorem in_X6 : ∀ w ∈ wsX60, w ∈ lw_all := lw_in wsX60 [2433, 2435] (by decide +kernel) (by decide +kernel)
def RX7 : String := "BlockGraph$Edge"
def TX7 : u_T := fun k => match k with
  | 0 => ("BlockGraph$Edge", "from", "I", true)
  | 1 => ("BlockGraph$Edge", "to", "I", true)
  | _ => ("BlockGraph$Edge", "weight", "I", true)
def tyX7 : Nat → FieldType := fun k => match k with
  | 0 => .int
  | 1 => .int
  | _ => .int
abbrev wsX70 : List Cond := u_ws RX7 TX7 3
theorem nmX7 : ∀ a, a < 3 → ∀ b, b < 3 → a ≠ b → (TX7 a).2.1 ≠ (TX7 b).2.1 := by decide +kernel
theorem tyX7_ok : ∀ k, k < 3 → parseFieldDescriptor (TX7 k).2.2.1 = some (tyX7 k) := by decide +kernel
theorem in_X7 : ∀ w ∈ wsX70, w ∈ lw_all := lw_in wsX70 [2325, 2327, 2329] (by decide +kernel) (by decide +kernel)
def RX8 : String := "BlockGraph$Reach"
def TX8 : u_T := fun k => match k with
  | 0 => ("BlockGraph$Reach", "distance", "I", true)
  | _ => ("BlockGraph$Reach", "vertex", "I", true)
def tyX8 : Nat → FieldType := fun k => match k with
  | 0 => .int
  | _ => .int
abbrev wsX80 : List Cond := u_ws RX8 TX8 2
theorem nmX8 : ∀ a, a < 2 → ∀ b, b < 2 → a ≠ b → (TX8 a).2.1 ≠ (TX8 b).2.1 := by decide +kernel
theorem tyX8_ok : ∀ k, k < 2 → parseFieldDescriptor (TX8 k).2.2.1 = some (tyX8 k) := by decide +kernel
theorem in_X8 : ∀ w ∈ wsX80, w ∈ lw_all := lw_in wsX80 [2617, 2619] (by decide +kernel) (by decide +kernel)
def RJ6 : String := "java/util/TreeMap"
def TJ6 : u_T := fun k => match k with
  | 0 => ("java/util/AbstractMap", "keySet", "Ljava/util/Set;", false)
  | 1 => ("java/util/AbstractMap", "values", "Ljava/util/Collection;", false)
  | 2 => ("java/util/TreeMap", "comparator", "Ljava/util/Comparator;", true)
  | 3 => ("java/util/TreeMap", "root", "Ljava/util/TreeMap$Entry;", false)
  | 4 => ("java/util/TreeMap", "size", "I", false)
  | 5 => ("java/util/TreeMap", "modCount", "I", false)
  | 6 => ("java/util/TreeMap", "entrySet", "Ljava/util/TreeMap$EntrySet;", false)
  | 7 => ("java/util/TreeMap", "navigableKeySet", "Ljava/util/TreeMap$KeySet;", false)
  | _ => ("java/util/TreeMap", "descendingMap", "Ljava/util/NavigableMap;", false)
def tyJ6 : Nat → FieldType := fun k => match k with
  | 0 => .object "java/util/Set"
  | 1 => .object "java/util/Collection"
  | 2 => .object "java/util/Comparator"
  | 3 => .object "java/util/TreeMap$Entry"
  | 4 => .int
  | 5 => .int
  | 6 => .object "java/util/TreeMap$EntrySet"
  | 7 => .object "java/util/TreeMap$KeySet"
  | _ => .object "java/util/NavigableMap"
abbrev wsJ60 : List Cond := u_ws RJ6 TJ6 9
theorem nmJ6 : ∀ a, a < 9 → ∀ b, b < 9 → a ≠ b → (TJ6 a).2.1 ≠ (TJ6 b).2.1 := by decide +kernel
theorem tyJ6_ok : ∀ k, k < 9 → parseFieldDescriptor (TJ6 k).2.2.1 = some (tyJ6 k) := by decide +kernel
theorem in_J6 : ∀ w ∈ wsJ60, w ∈ lw_all := lw_in wsJ60 [293, 294, 279, 281, 283, 285, 287, 289, 291] (by decide +kernel) (by decide +kernel)
def RJ30 : String := "java/util/TreeMap$Entry"
def TJ30 : u_T := fun k => match k with
  | 0 => ("java/util/TreeMap$Entry", "key", "Ljava/lang/Object;", false)
  | 1 => ("java/util/TreeMap$Entry", "value", "Ljava/lang/Object;", false)
  | 2 => ("java/util/TreeMap$Entry", "left", "Ljava/util/TreeMap$Entry;", false)
  | 3 => ("java/util/TreeMap$Entry", "right", "Ljava/util/TreeMap$Entry;", false)
  | 4 => ("java/util/TreeMap$Entry", "parent", "Ljava/util/TreeMap$Entry;", false)
  | _ => ("java/util/TreeMap$Entry", "color", "Z", false)
def tyJ30 : Nat → FieldType := fun k => match k with
  | 0 => .object "java/lang/Object"
  | 1 => .object "java/lang/Object"
  | 2 => .object "java/util/TreeMap$Entry"
  | 3 => .object "java/util/TreeMap$Entry"
  | 4 => .object "java/util/TreeMap$Entry"
  | _ => .boolean
abbrev wsJ300 : List Cond := u_ws RJ30 TJ30 6
theorem nmJ30 : ∀ a, a < 6 → ∀ b, b < 6 → a ≠ b → (TJ30 a).2.1 ≠ (TJ30 b).2.1 := by decide +kernel
theorem tyJ30_ok : ∀ k, k < 6 → parseFieldDescriptor (TJ30 k).2.2.1 = some (tyJ30 k) := by decide +kernel
theorem in_J30 : ∀ w ∈ wsJ300, w ∈ lw_all := lw_in wsJ300 [987, 989, 991, 993, 995, 997] (by decide +kernel) (by decide +kernel)
def RJ2 : String := "java/util/LinkedHashMap"
def TJ2 : u_T := fun k => match k with
  | 0 => ("java/util/HashMap", "table", "[Ljava/util/HashMap$Node;", false)
  | 1 => ("java/util/HashMap", "entrySet", "Ljava/util/Set;", false)
  | 2 => ("java/util/HashMap", "size", "I", false)
  | 3 => ("java/util/HashMap", "modCount", "I", false)
  | 4 => ("java/util/HashMap", "threshold", "I", false)
  | 5 => ("java/util/HashMap", "loadFactor", "F", true)
  | 6 => ("java/util/AbstractMap", "keySet", "Ljava/util/Set;", false)
  | 7 => ("java/util/AbstractMap", "values", "Ljava/util/Collection;", false)
  | 8 => ("java/util/LinkedHashMap", "head", "Ljava/util/LinkedHashMap$Entry;", false)
  | 9 => ("java/util/LinkedHashMap", "tail", "Ljava/util/LinkedHashMap$Entry;", false)
  | 10 => ("java/util/LinkedHashMap", "accessOrder", "Z", true)
  | _ => ("java/util/LinkedHashMap", "putMode", "I", false)
def tyJ2 : Nat → FieldType := fun k => match k with
  | 0 => .array (.object "java/util/HashMap$Node")
  | 1 => .object "java/util/Set"
  | 2 => .int
  | 3 => .int
  | 4 => .int
  | 5 => .float
  | 6 => .object "java/util/Set"
  | 7 => .object "java/util/Collection"
  | 8 => .object "java/util/LinkedHashMap$Entry"
  | 9 => .object "java/util/LinkedHashMap$Entry"
  | 10 => .boolean
  | _ => .int
abbrev wsJ20 : List Cond := u_ws RJ2 TJ2 12
theorem nmJ2 : ∀ a, a < 12 → ∀ b, b < 12 → a ≠ b → (TJ2 a).2.1 ≠ (TJ2 b).2.1 := by decide +kernel
theorem tyJ2_ok : ∀ k, k < 12 → parseFieldDescriptor (TJ2 k).2.2.1 = some (tyJ2 k) := by decide +kernel
theorem in_J2 : ∀ w ∈ wsJ20, w ∈ lw_all := lw_in wsJ20 [201, 203, 205, 207, 209, 211, 213, 215, 193, 195, 197, 199] (by decide +kernel) (by decide +kernel)
def RJ39 : String := "java/util/LinkedHashMap$Entry"
def TJ39 : u_T := fun k => match k with
  | 0 => ("java/util/HashMap$Node", "hash", "I", true)
  | 1 => ("java/util/HashMap$Node", "key", "Ljava/lang/Object;", true)
  | 2 => ("java/util/HashMap$Node", "value", "Ljava/lang/Object;", false)
  | 3 => ("java/util/HashMap$Node", "next", "Ljava/util/HashMap$Node;", false)
  | 4 => ("java/util/LinkedHashMap$Entry", "before", "Ljava/util/LinkedHashMap$Entry;", false)
  | _ => ("java/util/LinkedHashMap$Entry", "after", "Ljava/util/LinkedHashMap$Entry;", false)
def tyJ39 : Nat → FieldType := fun k => match k with
  | 0 => .int
  | 1 => .object "java/lang/Object"
  | 2 => .object "java/lang/Object"
  | 3 => .object "java/util/HashMap$Node"
  | 4 => .object "java/util/LinkedHashMap$Entry"
  | _ => .object "java/util/LinkedHashMap$Entry"
abbrev wsJ390 : List Cond := u_ws RJ39 TJ39 6
theorem nmJ39 : ∀ a, a < 6 → ∀ b, b < 6 → a ≠ b → (TJ39 a).2.1 ≠ (TJ39 b).2.1 := by decide +kernel
theorem tyJ39_ok : ∀ k, k < 6 → parseFieldDescriptor (TJ39 k).2.2.1 = some (tyJ39 k) := by decide +kernel
theorem in_J39 : ∀ w ∈ wsJ390, w ∈ lw_all := lw_in wsJ390 [1479, 1481, 1483, 1485, 1475, 1477] (by decide +kernel) (by decide +kernel)
def RJ45 : String := "java/util/LinkedHashMap$LinkedKeySet"
def TJ45 : u_T := fun k => match k with
  | 0 => ("java/util/LinkedHashMap$LinkedKeySet", "reversed", "Z", true)
  | _ => ("java/util/LinkedHashMap$LinkedKeySet", "this$0", "Ljava/util/LinkedHashMap;", true)
def tyJ45 : Nat → FieldType := fun k => match k with
  | 0 => .boolean
  | _ => .object "java/util/LinkedHashMap"
abbrev wsJ450 : List Cond := u_ws RJ45 TJ45 2
theorem nmJ45 : ∀ a, a < 2 → ∀ b, b < 2 → a ≠ b → (TJ45 a).2.1 ≠ (TJ45 b).2.1 := by decide +kernel
theorem tyJ45_ok : ∀ k, k < 2 → parseFieldDescriptor (TJ45 k).2.2.1 = some (tyJ45 k) := by decide +kernel
theorem in_J45 : ∀ w ∈ wsJ450, w ∈ lw_all := lw_in wsJ450 [2064, 2066] (by decide +kernel) (by decide +kernel)
def RJ19 : String := "java/util/LinkedHashMap$LinkedKeyIterator"
def TJ19 : u_T := fun k => match k with
  | 0 => ("java/util/LinkedHashMap$LinkedHashIterator", "next", "Ljava/util/LinkedHashMap$Entry;", false)
  | 1 => ("java/util/LinkedHashMap$LinkedHashIterator", "current", "Ljava/util/LinkedHashMap$Entry;", false)
  | 2 => ("java/util/LinkedHashMap$LinkedHashIterator", "expectedModCount", "I", false)
  | 3 => ("java/util/LinkedHashMap$LinkedHashIterator", "reversed", "Z", false)
  | _ => ("java/util/LinkedHashMap$LinkedHashIterator", "this$0", "Ljava/util/LinkedHashMap;", true)
def tyJ19 : Nat → FieldType := fun k => match k with
  | 0 => .object "java/util/LinkedHashMap$Entry"
  | 1 => .object "java/util/LinkedHashMap$Entry"
  | 2 => .int
  | 3 => .boolean
  | _ => .object "java/util/LinkedHashMap"
abbrev wsJ190 : List Cond := u_ws RJ19 TJ19 5
theorem nmJ19 : ∀ a, a < 5 → ∀ b, b < 5 → a ≠ b → (TJ19 a).2.1 ≠ (TJ19 b).2.1 := by decide +kernel
theorem tyJ19_ok : ∀ k, k < 5 → parseFieldDescriptor (TJ19 k).2.2.1 = some (tyJ19 k) := by decide +kernel
theorem in_J19 : ∀ w ∈ wsJ190, w ∈ lw_all := lw_in wsJ190 [659, 660, 661, 662, 663] (by decide +kernel) (by decide +kernel)
def RJ5 : String := "java/util/ArrayList"
def TJ5 : u_T := fun k => match k with
  | 0 => ("java/util/AbstractList", "modCount", "I", false)
  | 1 => ("java/util/ArrayList", "elementData", "[Ljava/lang/Object;", false)
  | _ => ("java/util/ArrayList", "size", "I", false)
def tyJ5 : Nat → FieldType := fun k => match k with
  | 0 => .int
  | 1 => .array (.object "java/lang/Object")
  | _ => .int
abbrev wsJ50 : List Cond := u_ws RJ5 TJ5 3
theorem nmJ5 : ∀ a, a < 3 → ∀ b, b < 3 → a ≠ b → (TJ5 a).2.1 ≠ (TJ5 b).2.1 := by decide +kernel
theorem tyJ5_ok : ∀ k, k < 3 → parseFieldDescriptor (TJ5 k).2.2.1 = some (tyJ5 k) := by decide +kernel
theorem in_J5 : ∀ w ∈ wsJ50, w ∈ lw_all := lw_in wsJ50 [263, 259, 261] (by decide +kernel) (by decide +kernel)
def RJ49 : String := "java/util/PriorityQueue"
def TJ49 : u_T := fun k => match k with
  | 0 => ("java/util/PriorityQueue", "queue", "[Ljava/lang/Object;", false)
  | 1 => ("java/util/PriorityQueue", "size", "I", false)
  | 2 => ("java/util/PriorityQueue", "comparator", "Ljava/util/Comparator;", true)
  | _ => ("java/util/PriorityQueue", "modCount", "I", false)
def tyJ49 : Nat → FieldType := fun k => match k with
  | 0 => .array (.object "java/lang/Object")
  | 1 => .int
  | 2 => .object "java/util/Comparator"
  | _ => .int
abbrev wsJ490 : List Cond := u_ws RJ49 TJ49 4
theorem nmJ49 : ∀ a, a < 4 → ∀ b, b < 4 → a ≠ b → (TJ49 a).2.1 ≠ (TJ49 b).2.1 := by decide +kernel
theorem tyJ49_ok : ∀ k, k < 4 → parseFieldDescriptor (TJ49 k).2.2.1 = some (tyJ49 k) := by decide +kernel
theorem in_J49 : ∀ w ∈ wsJ490, w ∈ lw_all := lw_in wsJ490 [2600, 2602, 2604, 2606] (by decide +kernel) (by decide +kernel)
def RJ10 : String := "java/util/BitSet"
def TJ10 : u_T := fun k => match k with
  | 0 => ("java/util/BitSet", "words", "[J", false)
  | 1 => ("java/util/BitSet", "wordsInUse", "I", false)
  | _ => ("java/util/BitSet", "sizeIsSticky", "Z", false)
def tyJ10 : Nat → FieldType := fun k => match k with
  | 0 => .array .long
  | 1 => .int
  | _ => .boolean
abbrev wsJ100 : List Cond := u_ws RJ10 TJ10 3
theorem nmJ10 : ∀ a, a < 3 → ∀ b, b < 3 → a ≠ b → (TJ10 a).2.1 ≠ (TJ10 b).2.1 := by decide +kernel
theorem tyJ10_ok : ∀ k, k < 3 → parseFieldDescriptor (TJ10 k).2.2.1 = some (tyJ10 k) := by decide +kernel
theorem in_J10 : ∀ w ∈ wsJ100, w ∈ lw_all := lw_in wsJ100 [417, 419, 421] (by decide +kernel) (by decide +kernel)
def RJ24 : String := "java/lang/Integer"
def TJ24 : u_T := fun k => match k with
  | _ => ("java/lang/Integer", "value", "I", true)
def tyJ24 : Nat → FieldType := fun k => match k with
  | _ => .int
abbrev wsJ240 : List Cond := u_ws RJ24 TJ24 1
theorem nmJ24 : ∀ a, a < 1 → ∀ b, b < 1 → a ≠ b → (TJ24 a).2.1 ≠ (TJ24 b).2.1 := by decide +kernel
theorem tyJ24_ok : ∀ k, k < 1 → parseFieldDescriptor (TJ24 k).2.2.1 = some (tyJ24 k) := by decide +kernel
theorem in_J24 : ∀ w ∈ wsJ240, w ∈ lw_all := lw_in wsJ240 [2001] (by decide +kernel) (by decide +kernel)
def RJ16 : String := "java/util/TreeMap$EntrySet"
def TJ16 : u_T := fun k => match k with
  | _ => ("java/util/TreeMap$EntrySet", "this$0", "Ljava/util/TreeMap;", true)
def tyJ16 : Nat → FieldType := fun k => match k with
  | _ => .object "java/util/TreeMap"
abbrev wsJ160 : List Cond := u_ws RJ16 TJ16 1
theorem nmJ16 : ∀ a, a < 1 → ∀ b, b < 1 → a ≠ b → (TJ16 a).2.1 ≠ (TJ16 b).2.1 := by decide +kernel
theorem tyJ16_ok : ∀ k, k < 1 → parseFieldDescriptor (TJ16 k).2.2.1 = some (tyJ16 k) := by decide +kernel
theorem in_J16 : ∀ w ∈ wsJ160, w ∈ lw_all := lw_in wsJ160 [609] (by decide +kernel) (by decide +kernel)
def RJ43 : String := "java/util/TreeMap$KeySet"
def TJ43 : u_T := fun k => match k with
  | _ => ("java/util/TreeMap$KeySet", "m", "Ljava/util/NavigableMap;", true)
def tyJ43 : Nat → FieldType := fun k => match k with
  | _ => .object "java/util/NavigableMap"
abbrev wsJ430 : List Cond := u_ws RJ43 TJ43 1
theorem nmJ43 : ∀ a, a < 1 → ∀ b, b < 1 → a ≠ b → (TJ43 a).2.1 ≠ (TJ43 b).2.1 := by decide +kernel
theorem tyJ43_ok : ∀ k, k < 1 → parseFieldDescriptor (TJ43 k).2.2.1 = some (tyJ43 k) := by decide +kernel
theorem in_J43 : ∀ w ∈ wsJ430, w ∈ lw_all := lw_in wsJ430 [1904] (by decide +kernel) (by decide +kernel)
def RJ51 : String := "java/util/TreeMap$Values"
def TJ51 : u_T := fun k => match k with
  | _ => ("java/util/TreeMap$Values", "this$0", "Ljava/util/TreeMap;", true)
def tyJ51 : Nat → FieldType := fun k => match k with
  | _ => .object "java/util/TreeMap"
abbrev wsJ510 : List Cond := u_ws RJ51 TJ51 1
theorem nmJ51 : ∀ a, a < 1 → ∀ b, b < 1 → a ≠ b → (TJ51 a).2.1 ≠ (TJ51 b).2.1 := by decide +kernel
theorem tyJ51_ok : ∀ k, k < 1 → parseFieldDescriptor (TJ51 k).2.2.1 = some (tyJ51 k) := by decide +kernel
theorem in_J51 : ∀ w ∈ wsJ510, w ∈ lw_all := lw_in wsJ510 [2694] (by decide +kernel) (by decide +kernel)
def RJ21 : String := "java/util/TreeMap$EntryIterator"
def TJ21 : u_T := fun k => match k with
  | 0 => ("java/util/TreeMap$PrivateEntryIterator", "next", "Ljava/util/TreeMap$Entry;", false)
  | 1 => ("java/util/TreeMap$PrivateEntryIterator", "lastReturned", "Ljava/util/TreeMap$Entry;", false)
  | 2 => ("java/util/TreeMap$PrivateEntryIterator", "expectedModCount", "I", false)
  | _ => ("java/util/TreeMap$PrivateEntryIterator", "this$0", "Ljava/util/TreeMap;", true)
def tyJ21 : Nat → FieldType := fun k => match k with
  | 0 => .object "java/util/TreeMap$Entry"
  | 1 => .object "java/util/TreeMap$Entry"
  | 2 => .int
  | _ => .object "java/util/TreeMap"
abbrev wsJ210 : List Cond := u_ws RJ21 TJ21 4
theorem nmJ21 : ∀ a, a < 4 → ∀ b, b < 4 → a ≠ b → (TJ21 a).2.1 ≠ (TJ21 b).2.1 := by decide +kernel
theorem tyJ21_ok : ∀ k, k < 4 → parseFieldDescriptor (TJ21 k).2.2.1 = some (tyJ21 k) := by decide +kernel
theorem in_J21 : ∀ w ∈ wsJ210, w ∈ lw_all := lw_in wsJ210 [688, 690, 692, 694] (by decide +kernel) (by decide +kernel)
def RJ22 : String := "java/util/TreeMap$KeyIterator"
def TJ22 : u_T := fun k => match k with
  | 0 => ("java/util/TreeMap$PrivateEntryIterator", "next", "Ljava/util/TreeMap$Entry;", false)
  | 1 => ("java/util/TreeMap$PrivateEntryIterator", "lastReturned", "Ljava/util/TreeMap$Entry;", false)
  | 2 => ("java/util/TreeMap$PrivateEntryIterator", "expectedModCount", "I", false)
  | _ => ("java/util/TreeMap$PrivateEntryIterator", "this$0", "Ljava/util/TreeMap;", true)
def tyJ22 : Nat → FieldType := fun k => match k with
  | 0 => .object "java/util/TreeMap$Entry"
  | 1 => .object "java/util/TreeMap$Entry"
  | 2 => .int
  | _ => .object "java/util/TreeMap"
abbrev wsJ220 : List Cond := u_ws RJ22 TJ22 4
theorem nmJ22 : ∀ a, a < 4 → ∀ b, b < 4 → a ≠ b → (TJ22 a).2.1 ≠ (TJ22 b).2.1 := by decide +kernel
theorem tyJ22_ok : ∀ k, k < 4 → parseFieldDescriptor (TJ22 k).2.2.1 = some (tyJ22 k) := by decide +kernel
theorem in_J22 : ∀ w ∈ wsJ220, w ∈ lw_all := lw_in wsJ220 [715, 716, 717, 718] (by decide +kernel) (by decide +kernel)
def RJ55 : String := "java/util/TreeMap$ValueIterator"
def TJ55 : u_T := fun k => match k with
  | 0 => ("java/util/TreeMap$PrivateEntryIterator", "next", "Ljava/util/TreeMap$Entry;", false)
  | 1 => ("java/util/TreeMap$PrivateEntryIterator", "lastReturned", "Ljava/util/TreeMap$Entry;", false)
  | 2 => ("java/util/TreeMap$PrivateEntryIterator", "expectedModCount", "I", false)
  | _ => ("java/util/TreeMap$PrivateEntryIterator", "this$0", "Ljava/util/TreeMap;", true)
def tyJ55 : Nat → FieldType := fun k => match k with
  | 0 => .object "java/util/TreeMap$Entry"
  | 1 => .object "java/util/TreeMap$Entry"
  | 2 => .int
  | _ => .object "java/util/TreeMap"
abbrev wsJ550 : List Cond := u_ws RJ55 TJ55 4
theorem nmJ55 : ∀ a, a < 4 → ∀ b, b < 4 → a ≠ b → (TJ55 a).2.1 ≠ (TJ55 b).2.1 := by decide +kernel
theorem tyJ55_ok : ∀ k, k < 4 → parseFieldDescriptor (TJ55 k).2.2.1 = some (tyJ55 k) := by decide +kernel
theorem in_J55 : ∀ w ∈ wsJ550, w ∈ lw_all := lw_in wsJ550 [2804, 2805, 2806, 2807] (by decide +kernel) (by decide +kernel)
abbrev clz : List vw_C := [(RX1, TX1, 10), (RX2, TX2, 4), (RX3, TX3, 3), (RX4, TX4, 3), (RX5, TX5, 23), (RX6, TX6, 2), (RX7, TX7, 3), (RX8, TX8, 2), (RJ6, TJ6, 9), (RJ30, TJ30, 6), (RJ2, TJ2, 12), (RJ39, TJ39, 6), (RJ45, TJ45, 2), (RJ19, TJ19, 5), (RJ5, TJ5, 3), (RJ49, TJ49, 4), (RJ10, TJ10, 3), (RJ24, TJ24, 1), (RJ16, TJ16, 1), (RJ43, TJ43, 1), (RJ51, TJ51, 1), (RJ21, TJ21, 4), (RJ22, TJ22, 4), (RJ55, TJ55, 4)]
def tyz : Nat → Nat → FieldType := fun i => match i with
  | 0 => tyX1
  | 1 => tyX2
  | 2 => tyX3
  | 3 => tyX4
  | 4 => tyX5
  | 5 => tyX6
  | 6 => tyX7
  | 7 => tyX8
  | 8 => tyJ6
  | 9 => tyJ30
  | 10 => tyJ2
  | 11 => tyJ39
  | 12 => tyJ45
  | 13 => tyJ19
  | 14 => tyJ5
  | 15 => tyJ49
  | 16 => tyJ10
  | 17 => tyJ24
  | 18 => tyJ16
  | 19 => tyJ43
  | 20 => tyJ51
  | 21 => tyJ21
  | 22 => tyJ22
  | 23 => tyJ55
  | _ => fun _ => .int
/-- what the tables say of every class of the list -/
def clOk (i : Nat) (q : vw_C) : Prop := (∀ w ∈ u_ws q.1 q.2.1 q.2.2, w ∈ lw_all) ∧ (∀ k, k < q.2.2 → parseFieldDescriptor (q.2.1 k).2.2.1 = some (tyz i k)) ∧ (∀ a, a < q.2.2 → ∀ b, b < q.2.2 → a ≠ b → (q.2.1 a).2.1 ≠ (q.2.1 b).2.1)
theorem clOk_0 : clOk 0 (RX1, TX1, 10) := ⟨in_X1, tyX1_ok, nmX1⟩
theorem clOk_1 : clOk 1 (RX2, TX2, 4) := ⟨in_X2, tyX2_ok, nmX2⟩
theorem clOk_2 : clOk 2 (RX3, TX3, 3) := ⟨in_X3, tyX3_ok, nmX3⟩
theorem clOk_3 : clOk 3 (RX4, TX4, 3) := ⟨in_X4, tyX4_ok, nmX4⟩
theorem clOk_4 : clOk 4 (RX5, TX5, 23) := ⟨in_X5, tyX5_ok, nmX5⟩
theorem clOk_5 : clOk 5 (RX6, TX6, 2) := ⟨in_X6, tyX6_ok, nmX6⟩
theorem clOk_6 : clOk 6 (RX7, TX7, 3) := ⟨in_X7, tyX7_ok, nmX7⟩
theorem clOk_7 : clOk 7 (RX8, TX8, 2) := ⟨in_X8, tyX8_ok, nmX8⟩
theorem clOk_8 : clOk 8 (RJ6, TJ6, 9) := ⟨in_J6, tyJ6_ok, nmJ6⟩
theorem clOk_9 : clOk 9 (RJ30, TJ30, 6) := ⟨in_J30, tyJ30_ok, nmJ30⟩
theorem clOk_10 : clOk 10 (RJ2, TJ2, 12) := ⟨in_J2, tyJ2_ok, nmJ2⟩
theorem clOk_11 : clOk 11 (RJ39, TJ39, 6) := ⟨in_J39, tyJ39_ok, nmJ39⟩
theorem clOk_12 : clOk 12 (RJ45, TJ45, 2) := ⟨in_J45, tyJ45_ok, nmJ45⟩
theorem clOk_13 : clOk 13 (RJ19, TJ19, 5) := ⟨in_J19, tyJ19_ok, nmJ19⟩
theorem clOk_14 : clOk 14 (RJ5, TJ5, 3) := ⟨in_J5, tyJ5_ok, nmJ5⟩
theorem clOk_15 : clOk 15 (RJ49, TJ49, 4) := ⟨in_J49, tyJ49_ok, nmJ49⟩
theorem clOk_16 : clOk 16 (RJ10, TJ10, 3) := ⟨in_J10, tyJ10_ok, nmJ10⟩
theorem clOk_17 : clOk 17 (RJ24, TJ24, 1) := ⟨in_J24, tyJ24_ok, nmJ24⟩
theorem clOk_18 : clOk 18 (RJ16, TJ16, 1) := ⟨in_J16, tyJ16_ok, nmJ16⟩
theorem clOk_19 : clOk 19 (RJ43, TJ43, 1) := ⟨in_J43, tyJ43_ok, nmJ43⟩
theorem clOk_20 : clOk 20 (RJ51, TJ51, 1) := ⟨in_J51, tyJ51_ok, nmJ51⟩
theorem clOk_21 : clOk 21 (RJ21, TJ21, 4) := ⟨in_J21, tyJ21_ok, nmJ21⟩
theorem clOk_22 : clOk 22 (RJ22, TJ22, 4) := ⟨in_J22, tyJ22_ok, nmJ22⟩
theorem clOk_23 : clOk 23 (RJ55, TJ55, 4) := ⟨in_J55, tyJ55_ok, nmJ55⟩
theorem clz_ok : ∀ (i : Nat) (q : vw_C), clz[i]? = some q → clOk i q := by
  intro i q h
  match i, h with
  | 0, h => cases h; exact clOk_0
  | 1, h => cases h; exact clOk_1
  | 2, h => cases h; exact clOk_2
  | 3, h => cases h; exact clOk_3
  | 4, h => cases h; exact clOk_4
  | 5, h => cases h; exact clOk_5
  | 6, h => cases h; exact clOk_6
  | 7, h => cases h; exact clOk_7
  | 8, h => cases h; exact clOk_8
  | 9, h => cases h; exact clOk_9
  | 10, h => cases h; exact clOk_10
  | 11, h => cases h; exact clOk_11
  | 12, h => cases h; exact clOk_12
  | 13, h => cases h; exact clOk_13
  | 14, h => cases h; exact clOk_14
  | 15, h => cases h; exact clOk_15
  | 16, h => cases h; exact clOk_16
  | 17, h => cases h; exact clOk_17
  | 18, h => cases h; exact clOk_18
  | 19, h => cases h; exact clOk_19
  | 20, h => cases h; exact clOk_20
  | 21, h => cases h; exact clOk_21
  | 22, h => cases h; exact clOk_22
  | 23, h => cases h; exact clOk_23
  | k + 24, h => simp [clz] at h
/-- the kind of X1 -/
abbrev kBG : Nat := 1
/-- the kind of X2 -/
abbrev kDK : Nat := 2
/-- the kind of X3 -/
abbrev kHD : Nat := 3
/-- the kind of X4 -/
abbrev kWY : Nat := 4
/-- the kind of X5 -/
abbrev kMD : Nat := 5
/-- the kind of X6 -/
abbrev kOP : Nat := 6
/-- the kind of X7 -/
abbrev kED : Nat := 7
/-- the kind of X8 -/
abbrev kRC : Nat := 8
/-- the kind of J6 -/
abbrev kTM : Nat := 9
/-- the kind of J30 -/
abbrev kEN : Nat := 10
/-- the kind of J2 -/
abbrev kLM : Nat := 11
/-- the kind of J39 -/
abbrev kLE : Nat := 12
/-- the kind of J45 -/
abbrev kKS : Nat := 13
/-- the kind of J19 -/
abbrev kKI : Nat := 14
/-- the kind of J5 -/
abbrev kAL : Nat := 15
/-- the kind of J49 -/
abbrev kPQ : Nat := 16
/-- the kind of J10 -/
abbrev kBS : Nat := 17
/-- the kind of J24 -/
abbrev kIN : Nat := 18
/-- the kind of J16 -/
abbrev kTE : Nat := 19
/-- the kind of J43 -/
abbrev kTK : Nat := 20
/-- the kind of J51 -/
abbrev kTV : Nat := 21
/-- the kind of J21 -/
abbrev kEI : Nat := 22
/-- the kind of J22 -/
abbrev kKT : Nat := 23
/-- the kind of J55 -/
abbrev kVI : Nat := 24
