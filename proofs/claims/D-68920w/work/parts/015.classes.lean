/-! the classes: fields and their words (printed out of claim/names) -/
def RX0 : String := "TypeHouseLaw"
def RX1 : String := "TypeHouse"
def TX1 : u_T := fun k => match k with
  | 0 => ("TypeHouse", "tape", "[B", true)
  | 1 => ("TypeHouse", "taped", "I", false)
  | 2 => ("TypeHouse", "file", "LTypeHouse$FontFile;", true)
  | 3 => ("TypeHouse", "press", "LTypeHouse$Press;", true)
  | _ => ("TypeHouse", "fuel", "I", false)
def tyX1 : Nat → FieldType := fun k => match k with
  | 0 => .array .byte
  | 1 => .int
  | 2 => .object "TypeHouse$FontFile"
  | 3 => .object "TypeHouse$Press"
  | _ => .int
abbrev wsX10 : List Cond := u_ws RX1 TX1 5
set_option maxRecDepth 100000 in
theorem nmX1 : ∀ a, a < 5 → ∀ b, b < 5 → a ≠ b → (TX1 a).2.1 ≠ (TX1 b).2.1 := by decide +kernel
set_option maxRecDepth 100000 in
theorem tyX1_ok : ∀ k, k < 5 → parseFieldDescriptor (TX1 k).2.2.1 = some (tyX1 k) := by decide +kernel
set_option maxRecDepth 100000 in
theorem in_X1 : ∀ w ∈ wsX10, w ∈ lw_all := lw_in wsX10 [2059, 2061, 2063, 2065, 2067] (by decide +kernel) (by decide +kernel)
def RX2 : String := "TypeHouse$FontFile"
def TX2 : u_T := fun k => match k with
  | 0 => ("TypeHouse$FontFile", "bytes", "[B", true)
  | _ => ("TypeHouse$FontFile", "size", "I", false)
def tyX2 : Nat → FieldType := fun k => match k with
  | 0 => .array .byte
  | _ => .int
abbrev wsX20 : List Cond := u_ws RX2 TX2 2
set_option maxRecDepth 100000 in
theorem nmX2 : ∀ a, a < 2 → ∀ b, b < 2 → a ≠ b → (TX2 a).2.1 ≠ (TX2 b).2.1 := by decide +kernel
set_option maxRecDepth 100000 in
theorem tyX2_ok : ∀ k, k < 2 → parseFieldDescriptor (TX2 k).2.2.1 = some (tyX2 k) := by decide +kernel
set_option maxRecDepth 100000 in
theorem in_X2 : ∀ w ∈ wsX20, w ∈ lw_all := lw_in wsX20 [502, 504] (by decide +kernel) (by decide +kernel)
def RX3 : String := "TypeHouse$Press"
def TX3 : u_T := fun k => match k with
  | 0 => ("TypeHouse$Press", "trouble", "LTypeHouse$Trouble;", true)
  | 1 => ("TypeHouse$Press", "fonts", "LTypeHouse$FontTable;", true)
  | 2 => ("TypeHouse$Press", "pool", "LTypeHouse$Pool;", true)
  | 3 => ("TypeHouse$Press", "boxes", "[LTypeHouse$Box;", true)
  | 4 => ("TypeHouse$Press", "boxCount", "I", false)
  | 5 => ("TypeHouse$Press", "x", "LTypeHouse$Expander;", true)
  | 6 => ("TypeHouse$Press", "settings", "LTypeHouse$Settings;", true)
  | 7 => ("TypeHouse$Press", "hyphenator", "LTypeHouse$Hyphenator;", true)
  | 8 => ("TypeHouse$Press", "setter", "LTypeHouse$Setter;", true)
  | 9 => ("TypeHouse$Press", "packer", "LTypeHouse$Packer;", true)
  | 10 => ("TypeHouse$Press", "layout", "LTypeHouse$Layout;", true)
  | 11 => ("TypeHouse$Press", "breaker", "LTypeHouse$Breaker;", true)
  | 12 => ("TypeHouse$Press", "pageItems", "LTypeHouse$PageItems;", true)
  | 13 => ("TypeHouse$Press", "builder", "LTypeHouse$PageBuilder;", true)
  | 14 => ("TypeHouse$Press", "sums", "LTypeHouse$Sums;", true)
  | 15 => ("TypeHouse$Press", "writer", "LTypeHouse$Writer;", true)
  | 16 => ("TypeHouse$Press", "lists", "LTypeHouse$Lists;", true)
  | 17 => ("TypeHouse$Press", "apart", "LTypeHouse$Lists;", true)
  | 18 => ("TypeHouse$Press", "row", "LTypeHouse$Lists;", true)
  | 19 => ("TypeHouse$Press", "modes", "[I", true)
  | 20 => ("TypeHouse$Press", "starts", "[I", true)
  | 21 => ("TypeHouse$Press", "depths", "[I", true)
  | 22 => ("TypeHouse$Press", "hows", "[I", true)
  | 23 => ("TypeHouse$Press", "sizes", "[I", true)
  | 24 => ("TypeHouse$Press", "goals", "[I", true)
  | 25 => ("TypeHouse$Press", "shifts", "[I", true)
  | 26 => ("TypeHouse$Press", "globals", "[Z", true)
  | 27 => ("TypeHouse$Press", "top", "I", false)
  | 28 => ("TypeHouse$Press", "word", "[B", true)
  | 29 => ("TypeHouse$Press", "part", "[B", true)
  | 30 => ("TypeHouse$Press", "wordSize", "I", false)
  | 31 => ("TypeHouse$Press", "wordFont", "I", false)
  | 32 => ("TypeHouse$Press", "whole", "LTypeHouse$Lists;", true)
  | 33 => ("TypeHouse$Press", "first", "LTypeHouse$Lists;", true)
  | 34 => ("TypeHouse$Press", "hyphens", "[I", true)
  | 35 => ("TypeHouse$Press", "stopped", "Z", false)
  | _ => ("TypeHouse$Press", "abouts", "[I", true)
def tyX3 : Nat → FieldType := fun k => match k with
  | 0 => .object "TypeHouse$Trouble"
  | 1 => .object "TypeHouse$FontTable"
  | 2 => .object "TypeHouse$Pool"
  | 3 => .array (.object "TypeHouse$Box")
  | 4 => .int
  | 5 => .object "TypeHouse$Expander"
  | 6 => .object "TypeHouse$Settings"
  | 7 => .object "TypeHouse$Hyphenator"
  | 8 => .object "TypeHouse$Setter"
  | 9 => .object "TypeHouse$Packer"
  | 10 => .object "TypeHouse$Layout"
  | 11 => .object "TypeHouse$Breaker"
  | 12 => .object "TypeHouse$PageItems"
  | 13 => .object "TypeHouse$PageBuilder"
  | 14 => .object "TypeHouse$Sums"
  | 15 => .object "TypeHouse$Writer"
  | 16 => .object "TypeHouse$Lists"
  | 17 => .object "TypeHouse$Lists"
  | 18 => .object "TypeHouse$Lists"
  | 19 => .array .int
  | 20 => .array .int
  | 21 => .array .int
  | 22 => .array .int
  | 23 => .array .int
  | 24 => .array .int
  | 25 => .array .int
  | 26 => .array .boolean
  | 27 => .int
  | 28 => .array .byte
  | 29 => .array .byte
  | 30 => .int
  | 31 => .int
  | 32 => .object "TypeHouse$Lists"
  | 33 => .object "TypeHouse$Lists"
  | 34 => .array .int
  | 35 => .boolean
  | _ => .array .int
abbrev wsX30 : List Cond := u_ws RX3 TX3 37
set_option maxRecDepth 100000 in
theorem nmX3 : ∀ a, a < 37 → ∀ b, b < 37 → a ≠ b → (TX3 a).2.1 ≠ (TX3 b).2.1 := by decide +kernel
set_option maxRecDepth 100000 in
theorem tyX3_ok : ∀ k, k < 37 → parseFieldDescriptor (TX3 k).2.2.1 = some (tyX3 k) := by decide +kernel
set_option maxRecDepth 100000 in
theorem in_X3 : ∀ w ∈ wsX30, w ∈ lw_all := lw_in wsX30 [1830, 1832, 1834, 1836, 1838, 1840, 1842, 1844, 1846, 1848, 1850, 1852, 1854, 1856, 1858, 1860, 1862, 1864, 1866, 1868, 1870, 1872, 1874, 1876, 1878, 1880, 1882, 1884, 1886, 1888, 1890, 1892, 1894, 1896, 1898, 1900, 1902] (by decide +kernel) (by decide +kernel)
def RX4 : String := "TypeHouse$Trouble"
def TX4 : u_T := fun k => match k with
  | _ => ("TypeHouse$Trouble", "fault", "I", false)
def tyX4 : Nat → FieldType := fun k => match k with
  | _ => .int
abbrev wsX40 : List Cond := u_ws RX4 TX4 1
set_option maxRecDepth 100000 in
theorem nmX4 : ∀ a, a < 1 → ∀ b, b < 1 → a ≠ b → (TX4 a).2.1 ≠ (TX4 b).2.1 := by decide +kernel
set_option maxRecDepth 100000 in
theorem tyX4_ok : ∀ k, k < 1 → parseFieldDescriptor (TX4 k).2.2.1 = some (tyX4 k) := by decide +kernel
set_option maxRecDepth 100000 in
theorem in_X4 : ∀ w ∈ wsX40, w ∈ lw_all := lw_in wsX40 [523] (by decide +kernel) (by decide +kernel)
def RX5 : String := "TypeHouse$FontTable"
def TX5 : u_T := fun k => match k with
  | 0 => ("TypeHouse$FontTable", "slots", "[LTypeHouse$FontFile;", true)
  | 1 => ("TypeHouse$FontTable", "fonts", "[LTypeHouse$Font;", true)
  | 2 => ("TypeHouse$FontTable", "slotOf", "[I", true)
  | 3 => ("TypeHouse$FontTable", "count", "I", false)
  | 4 => ("TypeHouse$FontTable", "used", "[Z", true)
  | 5 => ("TypeHouse$FontTable", "order", "[I", true)
  | 6 => ("TypeHouse$FontTable", "told", "I", false)
  | _ => ("TypeHouse$FontTable", "tried", "LTypeHouse$Font;", true)
def tyX5 : Nat → FieldType := fun k => match k with
  | 0 => .array (.object "TypeHouse$FontFile")
  | 1 => .array (.object "TypeHouse$Font")
  | 2 => .array .int
  | 3 => .int
  | 4 => .array .boolean
  | 5 => .array .int
  | 6 => .int
  | _ => .object "TypeHouse$Font"
abbrev wsX50 : List Cond := u_ws RX5 TX5 8
set_option maxRecDepth 100000 in
theorem nmX5 : ∀ a, a < 8 → ∀ b, b < 8 → a ≠ b → (TX5 a).2.1 ≠ (TX5 b).2.1 := by decide +kernel
set_option maxRecDepth 100000 in
theorem tyX5_ok : ∀ k, k < 8 → parseFieldDescriptor (TX5 k).2.2.1 = some (tyX5 k) := by decide +kernel
set_option maxRecDepth 100000 in
theorem in_X5 : ∀ w ∈ wsX50, w ∈ lw_all := lw_in wsX50 [597, 599, 601, 603, 605, 607, 609, 611] (by decide +kernel) (by decide +kernel)
def RX6 : String := "TypeHouse$Font"
def TX6 : u_T := fun k => match k with
  | 0 => ("TypeHouse$Font", "words", "[I", true)
  | 1 => ("TypeHouse$Font", "scaled", "[I", true)
  | 2 => ("TypeHouse$Font", "starts", "[I", true)
  | 3 => ("TypeHouse$Font", "counts", "[I", true)
  | 4 => ("TypeHouse$Font", "first", "I", false)
  | 5 => ("TypeHouse$Font", "last", "I", false)
  | 6 => ("TypeHouse$Font", "size", "I", false)
  | 7 => ("TypeHouse$Font", "design", "I", false)
  | 8 => ("TypeHouse$Font", "edge", "I", false)
  | 9 => ("TypeHouse$Font", "edgeProgram", "I", false)
  | _ => ("TypeHouse$Font", "loaded", "Z", false)
def tyX6 : Nat → FieldType := fun k => match k with
  | 0 => .array .int
  | 1 => .array .int
  | 2 => .array .int
  | 3 => .array .int
  | 4 => .int
  | 5 => .int
  | 6 => .int
  | 7 => .int
  | 8 => .int
  | 9 => .int
  | _ => .boolean
abbrev wsX60 : List Cond := u_ws RX6 TX6 11
set_option maxRecDepth 100000 in
theorem nmX6 : ∀ a, a < 11 → ∀ b, b < 11 → a ≠ b → (TX6 a).2.1 ≠ (TX6 b).2.1 := by decide +kernel
set_option maxRecDepth 100000 in
theorem tyX6_ok : ∀ k, k < 11 → parseFieldDescriptor (TX6 k).2.2.1 = some (tyX6 k) := by decide +kernel
set_option maxRecDepth 100000 in
theorem in_X6 : ∀ w ∈ wsX60, w ∈ lw_all := lw_in wsX60 [559, 561, 563, 565, 567, 569, 571, 573, 575, 577, 579] (by decide +kernel) (by decide +kernel)
def RX7 : String := "TypeHouse$Pool"
def TX7 : u_T := fun k => match k with
  | 0 => ("TypeHouse$Pool", "kinds", "[B", false)
  | 1 => ("TypeHouse$Pool", "numbers", "[I", false)
  | 2 => ("TypeHouse$Pool", "places", "[I", false)
  | _ => ("TypeHouse$Pool", "size", "I", false)
def tyX7 : Nat → FieldType := fun k => match k with
  | 0 => .array .byte
  | 1 => .array .int
  | 2 => .array .int
  | _ => .int
abbrev wsX70 : List Cond := u_ws RX7 TX7 4
set_option maxRecDepth 100000 in
theorem nmX7 : ∀ a, a < 4 → ∀ b, b < 4 → a ≠ b → (TX7 a).2.1 ≠ (TX7 b).2.1 := by decide +kernel
set_option maxRecDepth 100000 in
theorem tyX7_ok : ∀ k, k < 4 → parseFieldDescriptor (TX7 k).2.2.1 = some (tyX7 k) := by decide +kernel
set_option maxRecDepth 100000 in
theorem in_X7 : ∀ w ∈ wsX70, w ∈ lw_all := lw_in wsX70 [627, 629, 631, 633] (by decide +kernel) (by decide +kernel)
def RX8 : String := "TypeHouse$Expander"
def TX8 : u_T := fun k => match k with
  | 0 => ("TypeHouse$Expander", "trouble", "LTypeHouse$Trouble;", true)
  | 1 => ("TypeHouse$Expander", "fonts", "LTypeHouse$FontTable;", true)
  | 2 => ("TypeHouse$Expander", "boxes", "[LTypeHouse$Box;", true)
  | 3 => ("TypeHouse$Expander", "names", "LTypeHouse$Names;", true)
  | 4 => ("TypeHouse$Expander", "settings", "LTypeHouse$Settings;", true)
  | 5 => ("TypeHouse$Expander", "lines", "LTypeHouse$SourceLines;", true)
  | 6 => ("TypeHouse$Expander", "macros", "LTypeHouse$Macros;", true)
  | 7 => ("TypeHouse$Expander", "source", "LTypeHouse$Tokens;", true)
  | 8 => ("TypeHouse$Expander", "ticks", "I", false)
  | 9 => ("TypeHouse$Expander", "mayTick", "I", false)
  | 10 => ("TypeHouse$Expander", "nested", "I", false)
  | 11 => ("TypeHouse$Expander", "vertical", "Z", false)
  | 12 => ("TypeHouse$Expander", "decided", "[Z", true)
  | 13 => ("TypeHouse$Expander", "ofCases", "[Z", true)
  | 14 => ("TypeHouse$Expander", "behindElse", "[Z", true)
  | 15 => ("TypeHouse$Expander", "conditions", "I", false)
  | 16 => ("TypeHouse$Expander", "got", "[I", false)
  | 17 => ("TypeHouse$Expander", "gotSize", "I", false)
  | 18 => ("TypeHouse$Expander", "until", "[I", true)
  | 19 => ("TypeHouse$Expander", "digits", "[I", true)
  | 20 => ("TypeHouse$Expander", "worths", "[I", true)
  | 21 => ("TypeHouse$Expander", "made", "[B", true)
  | 22 => ("TypeHouse$Expander", "madeSize", "I", false)
  | 23 => ("TypeHouse$Expander", "held", "[I", true)
  | 24 => ("TypeHouse$Expander", "heldSize", "I", false)
  | 25 => ("TypeHouse$Expander", "factor", "J", false)
  | 26 => ("TypeHouse$Expander", "decimals", "J", false)
  | 27 => ("TypeHouse$Expander", "less", "Z", false)
  | 28 => ("TypeHouse$Expander", "order", "I", false)
  | _ => ("TypeHouse$Expander", "read", "[I", true)
def tyX8 : Nat → FieldType := fun k => match k with
  | 0 => .object "TypeHouse$Trouble"
  | 1 => .object "TypeHouse$FontTable"
  | 2 => .array (.object "TypeHouse$Box")
  | 3 => .object "TypeHouse$Names"
  | 4 => .object "TypeHouse$Settings"
  | 5 => .object "TypeHouse$SourceLines"
  | 6 => .object "TypeHouse$Macros"
  | 7 => .object "TypeHouse$Tokens"
  | 8 => .int
  | 9 => .int
  | 10 => .int
  | 11 => .boolean
  | 12 => .array .boolean
  | 13 => .array .boolean
  | 14 => .array .boolean
  | 15 => .int
  | 16 => .array .int
  | 17 => .int
  | 18 => .array .int
  | 19 => .array .int
  | 20 => .array .int
  | 21 => .array .byte
  | 22 => .int
  | 23 => .array .int
  | 24 => .int
  | 25 => .long
  | 26 => .long
  | 27 => .boolean
  | 28 => .int
  | _ => .array .int
abbrev wsX80 : List Cond := u_ws RX8 TX8 30
set_option maxRecDepth 100000 in
theorem nmX8 : ∀ a, a < 30 → ∀ b, b < 30 → a ≠ b → (TX8 a).2.1 ≠ (TX8 b).2.1 := by decide +kernel
set_option maxRecDepth 100000 in
theorem tyX8_ok : ∀ k, k < 30 → parseFieldDescriptor (TX8 k).2.2.1 = some (tyX8 k) := by decide +kernel
set_option maxRecDepth 100000 in
theorem in_X8 : ∀ w ∈ wsX80, w ∈ lw_all := lw_in wsX80 [869, 871, 873, 875, 877, 879, 881, 883, 885, 887, 889, 891, 893, 895, 897, 899, 901, 903, 905, 907, 909, 911, 913, 915, 917, 919, 921, 923, 925, 927] (by decide +kernel) (by decide +kernel)
def RX9 : String := "TypeHouse$Settings"
def TX9 : u_T := fun k => match k with
  | 0 => ("TypeHouse$Settings", "kinds", "[I", false)
  | 1 => ("TypeHouse$Settings", "values", "[I", false)
  | 2 => ("TypeHouse$Settings", "levels", "[I", false)
  | 3 => ("TypeHouse$Settings", "cells", "[I", true)
  | 4 => ("TypeHouse$Settings", "cellLevels", "[I", true)
  | 5 => ("TypeHouse$Settings", "saved", "[I", false)
  | 6 => ("TypeHouse$Settings", "size", "I", false)
  | 7 => ("TypeHouse$Settings", "cellPlaces", "[I", true)
  | 8 => ("TypeHouse$Settings", "places", "[I", false)
  | 9 => ("TypeHouse$Settings", "groupKinds", "[I", true)
  | 10 => ("TypeHouse$Settings", "marks", "[I", true)
  | _ => ("TypeHouse$Settings", "level", "I", false)
def tyX9 : Nat → FieldType := fun k => match k with
  | 0 => .array .int
  | 1 => .array .int
  | 2 => .array .int
  | 3 => .array .int
  | 4 => .array .int
  | 5 => .array .int
  | 6 => .int
  | 7 => .array .int
  | 8 => .array .int
  | 9 => .array .int
  | 10 => .array .int
  | _ => .int
abbrev wsX90 : List Cond := u_ws RX9 TX9 12
set_option maxRecDepth 100000 in
theorem nmX9 : ∀ a, a < 12 → ∀ b, b < 12 → a ≠ b → (TX9 a).2.1 ≠ (TX9 b).2.1 := by decide +kernel
set_option maxRecDepth 100000 in
theorem tyX9_ok : ∀ k, k < 12 → parseFieldDescriptor (TX9 k).2.2.1 = some (tyX9 k) := by decide +kernel
set_option maxRecDepth 100000 in
theorem in_X9 : ∀ w ∈ wsX90, w ∈ lw_all := lw_in wsX90 [669, 671, 673, 675, 677, 679, 681, 683, 685, 687, 689, 691] (by decide +kernel) (by decide +kernel)
def RX10 : String := "TypeHouse$Names"
def TX10 : u_T := fun k => match k with
  | 0 => ("TypeHouse$Names", "trouble", "LTypeHouse$Trouble;", true)
  | 1 => ("TypeHouse$Names", "table", "[I", true)
  | 2 => ("TypeHouse$Names", "begins", "[I", false)
  | 3 => ("TypeHouse$Names", "sizes", "[I", false)
  | 4 => ("TypeHouse$Names", "letters", "[B", false)
  | 5 => ("TypeHouse$Names", "used", "I", false)
  | 6 => ("TypeHouse$Names", "count", "I", false)
  | 7 => ("TypeHouse$Names", "scratch", "[B", true)
  | _ => ("TypeHouse$Names", "size", "I", false)
def tyX10 : Nat → FieldType := fun k => match k with
  | 0 => .object "TypeHouse$Trouble"
  | 1 => .array .int
  | 2 => .array .int
  | 3 => .array .int
  | 4 => .array .byte
  | 5 => .int
  | 6 => .int
  | 7 => .array .byte
  | _ => .int
abbrev wsX100 : List Cond := u_ws RX10 TX10 9
set_option maxRecDepth 100000 in
theorem nmX10 : ∀ a, a < 9 → ∀ b, b < 9 → a ≠ b → (TX10 a).2.1 ≠ (TX10 b).2.1 := by decide +kernel
set_option maxRecDepth 100000 in
theorem tyX10_ok : ∀ k, k < 9 → parseFieldDescriptor (TX10 k).2.2.1 = some (tyX10 k) := by decide +kernel
set_option maxRecDepth 100000 in
theorem in_X10 : ∀ w ∈ wsX100, w ∈ lw_all := lw_in wsX100 [711, 713, 715, 717, 719, 721, 723, 725, 727] (by decide +kernel) (by decide +kernel)
def RX11 : String := "TypeHouse$SourceLines"
def TX11 : u_T := fun k => match k with
  | 0 => ("TypeHouse$SourceLines", "trouble", "LTypeHouse$Trouble;", true)
  | 1 => ("TypeHouse$SourceLines", "names", "LTypeHouse$Names;", true)
  | 2 => ("TypeHouse$SourceLines", "settings", "LTypeHouse$Settings;", true)
  | 3 => ("TypeHouse$SourceLines", "text", "[B", true)
  | 4 => ("TypeHouse$SourceLines", "size", "I", false)
  | 5 => ("TypeHouse$SourceLines", "next", "I", false)
  | 6 => ("TypeHouse$SourceLines", "at", "I", false)
  | 7 => ("TypeHouse$SourceLines", "end", "I", false)
  | 8 => ("TypeHouse$SourceLines", "state", "I", false)
  | _ => ("TypeHouse$SourceLines", "line", "I", false)
def tyX11 : Nat → FieldType := fun k => match k with
  | 0 => .object "TypeHouse$Trouble"
  | 1 => .object "TypeHouse$Names"
  | 2 => .object "TypeHouse$Settings"
  | 3 => .array .byte
  | 4 => .int
  | 5 => .int
  | 6 => .int
  | 7 => .int
  | 8 => .int
  | _ => .int
abbrev wsX110 : List Cond := u_ws RX11 TX11 10
set_option maxRecDepth 100000 in
theorem nmX11 : ∀ a, a < 10 → ∀ b, b < 10 → a ≠ b → (TX11 a).2.1 ≠ (TX11 b).2.1 := by decide +kernel
set_option maxRecDepth 100000 in
theorem tyX11_ok : ∀ k, k < 10 → parseFieldDescriptor (TX11 k).2.2.1 = some (tyX11 k) := by decide +kernel
set_option maxRecDepth 100000 in
theorem in_X11 : ∀ w ∈ wsX110, w ∈ lw_all := lw_in wsX110 [750, 752, 754, 756, 758, 760, 762, 764, 766, 768] (by decide +kernel) (by decide +kernel)
def RX12 : String := "TypeHouse$Macros"
def TX12 : u_T := fun k => match k with
  | 0 => ("TypeHouse$Macros", "trouble", "LTypeHouse$Trouble;", true)
  | 1 => ("TypeHouse$Macros", "pool", "[I", true)
  | 2 => ("TypeHouse$Macros", "used", "I", false)
  | 3 => ("TypeHouse$Macros", "begins", "[I", false)
  | 4 => ("TypeHouse$Macros", "bodies", "[I", false)
  | 5 => ("TypeHouse$Macros", "ends", "[I", false)
  | 6 => ("TypeHouse$Macros", "parameters", "[I", false)
  | _ => ("TypeHouse$Macros", "count", "I", false)
def tyX12 : Nat → FieldType := fun k => match k with
  | 0 => .object "TypeHouse$Trouble"
  | 1 => .array .int
  | 2 => .int
  | 3 => .array .int
  | 4 => .array .int
  | 5 => .array .int
  | 6 => .array .int
  | _ => .int
abbrev wsX120 : List Cond := u_ws RX12 TX12 8
set_option maxRecDepth 100000 in
theorem nmX12 : ∀ a, a < 8 → ∀ b, b < 8 → a ≠ b → (TX12 a).2.1 ≠ (TX12 b).2.1 := by decide +kernel
set_option maxRecDepth 100000 in
theorem tyX12_ok : ∀ k, k < 8 → parseFieldDescriptor (TX12 k).2.2.1 = some (tyX12 k) := by decide +kernel
set_option maxRecDepth 100000 in
theorem in_X12 : ∀ w ∈ wsX120, w ∈ lw_all := lw_in wsX120 [794, 796, 798, 800, 802, 804, 806, 808] (by decide +kernel) (by decide +kernel)
def RX13 : String := "TypeHouse$Tokens"
def TX13 : u_T := fun k => match k with
  | 0 => ("TypeHouse$Tokens", "macros", "LTypeHouse$Macros;", true)
  | 1 => ("TypeHouse$Tokens", "lines", "LTypeHouse$SourceLines;", true)
  | 2 => ("TypeHouse$Tokens", "row", "[I", false)
  | _ => ("TypeHouse$Tokens", "pending", "I", false)
def tyX13 : Nat → FieldType := fun k => match k with
  | 0 => .object "TypeHouse$Macros"
  | 1 => .object "TypeHouse$SourceLines"
  | 2 => .array .int
  | _ => .int
abbrev wsX130 : List Cond := u_ws RX13 TX13 4
set_option maxRecDepth 100000 in
theorem nmX13 : ∀ a, a < 4 → ∀ b, b < 4 → a ≠ b → (TX13 a).2.1 ≠ (TX13 b).2.1 := by decide +kernel
set_option maxRecDepth 100000 in
theorem tyX13_ok : ∀ k, k < 4 → parseFieldDescriptor (TX13 k).2.2.1 = some (tyX13 k) := by decide +kernel
set_option maxRecDepth 100000 in
theorem in_X13 : ∀ w ∈ wsX130, w ∈ lw_all := lw_in wsX130 [822, 824, 826, 828] (by decide +kernel) (by decide +kernel)
def RX14 : String := "TypeHouse$Hyphenator"
def TX14 : u_T := fun k => match k with
  | 0 => ("TypeHouse$Hyphenator", "trie", "LTypeHouse$Trie;", true)
  | 1 => ("TypeHouse$Hyphenator", "words", "LTypeHouse$ToldWords;", true)
  | 2 => ("TypeHouse$Hyphenator", "row", "LTypeHouse$Letters;", true)
  | 3 => ("TypeHouse$Hyphenator", "edged", "LTypeHouse$Letters;", true)
  | 4 => ("TypeHouse$Hyphenator", "text", "[B", false)
  | 5 => ("TypeHouse$Hyphenator", "size", "I", false)
  | 6 => ("TypeHouse$Hyphenator", "at", "I", false)
  | _ => ("TypeHouse$Hyphenator", "fault", "I", false)
def tyX14 : Nat → FieldType := fun k => match k with
  | 0 => .object "TypeHouse$Trie"
  | 1 => .object "TypeHouse$ToldWords"
  | 2 => .object "TypeHouse$Letters"
  | 3 => .object "TypeHouse$Letters"
  | 4 => .array .byte
  | 5 => .int
  | 6 => .int
  | _ => .int
abbrev wsX140 : List Cond := u_ws RX14 TX14 8
set_option maxRecDepth 100000 in
theorem nmX14 : ∀ a, a < 8 → ∀ b, b < 8 → a ≠ b → (TX14 a).2.1 ≠ (TX14 b).2.1 := by decide +kernel
set_option maxRecDepth 100000 in
theorem tyX14_ok : ∀ k, k < 8 → parseFieldDescriptor (TX14 k).2.2.1 = some (tyX14 k) := by decide +kernel
set_option maxRecDepth 100000 in
theorem in_X14 : ∀ w ∈ wsX140, w ∈ lw_all := lw_in wsX140 [1114, 1116, 1118, 1120, 1122, 1124, 1126, 1128] (by decide +kernel) (by decide +kernel)
def RX15 : String := "TypeHouse$Trie"
def TX15 : u_T := fun k => match k with
  | 0 => ("TypeHouse$Trie", "first", "[I", false)
  | 1 => ("TypeHouse$Trie", "beside", "[I", false)
  | 2 => ("TypeHouse$Trie", "letter", "[B", false)
  | 3 => ("TypeHouse$Trie", "says", "[I", false)
  | 4 => ("TypeHouse$Trie", "behind", "[I", false)
  | 5 => ("TypeHouse$Trie", "nodes", "I", false)
  | 6 => ("TypeHouse$Trie", "far", "[I", false)
  | 7 => ("TypeHouse$Trie", "number", "[I", false)
  | 8 => ("TypeHouse$Trie", "next", "[I", false)
  | 9 => ("TypeHouse$Trie", "links", "I", false)
  | 10 => ("TypeHouse$Trie", "check", "[I", false)
  | 11 => ("TypeHouse$Trie", "node", "[I", false)
  | 12 => ("TypeHouse$Trie", "base", "[I", false)
  | 13 => ("TypeHouse$Trie", "taken", "[Z", false)
  | 14 => ("TypeHouse$Trie", "cells", "I", false)
  | 15 => ("TypeHouse$Trie", "packed", "Z", false)
  | 16 => ("TypeHouse$Trie", "patterns", "I", false)
  | 17 => ("TypeHouse$Trie", "letters", "I", false)
  | 18 => ("TypeHouse$Trie", "since", "[I", true)
  | 19 => ("TypeHouse$Trie", "sinceCount", "I", false)
  | 20 => ("TypeHouse$Trie", "oldNodes", "I", false)
  | 21 => ("TypeHouse$Trie", "oldLinks", "I", false)
  | 22 => ("TypeHouse$Trie", "oldPatterns", "I", false)
  | 23 => ("TypeHouse$Trie", "oldLetters", "I", false)
  | _ => ("TypeHouse$Trie", "wasPacked", "Z", false)
def tyX15 : Nat → FieldType := fun k => match k with
  | 0 => .array .int
  | 1 => .array .int
  | 2 => .array .byte
  | 3 => .array .int
  | 4 => .array .int
  | 5 => .int
  | 6 => .array .int
  | 7 => .array .int
  | 8 => .array .int
  | 9 => .int
  | 10 => .array .int
  | 11 => .array .int
  | 12 => .array .int
  | 13 => .array .boolean
  | 14 => .int
  | 15 => .boolean
  | 16 => .int
  | 17 => .int
  | 18 => .array .int
  | 19 => .int
  | 20 => .int
  | 21 => .int
  | 22 => .int
  | 23 => .int
  | _ => .boolean
abbrev wsX150 : List Cond := u_ws RX15 TX15 25
set_option maxRecDepth 100000 in
theorem nmX15 : ∀ a, a < 25 → ∀ b, b < 25 → a ≠ b → (TX15 a).2.1 ≠ (TX15 b).2.1 := by decide +kernel
set_option maxRecDepth 100000 in
theorem tyX15_ok : ∀ k, k < 25 → parseFieldDescriptor (TX15 k).2.2.1 = some (tyX15 k) := by decide +kernel
set_option maxRecDepth 100000 in
theorem in_X15 : ∀ w ∈ wsX150, w ∈ lw_all := lw_in wsX150 [984, 986, 988, 990, 992, 994, 996, 998, 1000, 1002, 1004, 1006, 1008, 1010, 1012, 1014, 1016, 1018, 1020, 1022, 1024, 1026, 1028, 1030, 1032] (by decide +kernel) (by decide +kernel)
def RX16 : String := "TypeHouse$ToldWords"
def TX16 : u_T := fun k => match k with
  | 0 => ("TypeHouse$ToldWords", "table", "[I", true)
  | 1 => ("TypeHouse$ToldWords", "begins", "[I", true)
  | 2 => ("TypeHouse$ToldWords", "sizes", "[I", true)
  | 3 => ("TypeHouse$ToldWords", "hyphens", "[J", true)
  | 4 => ("TypeHouse$ToldWords", "letters", "[B", true)
  | 5 => ("TypeHouse$ToldWords", "count", "I", false)
  | 6 => ("TypeHouse$ToldWords", "used", "I", false)
  | 7 => ("TypeHouse$ToldWords", "oldCount", "I", false)
  | 8 => ("TypeHouse$ToldWords", "oldUsed", "I", false)
  | 9 => ("TypeHouse$ToldWords", "changed", "[I", true)
  | 10 => ("TypeHouse$ToldWords", "had", "[J", true)
  | _ => ("TypeHouse$ToldWords", "changes", "I", false)
def tyX16 : Nat → FieldType := fun k => match k with
  | 0 => .array .int
  | 1 => .array .int
  | 2 => .array .int
  | 3 => .array .long
  | 4 => .array .byte
  | 5 => .int
  | 6 => .int
  | 7 => .int
  | 8 => .int
  | 9 => .array .int
  | 10 => .array .long
  | _ => .int
abbrev wsX160 : List Cond := u_ws RX16 TX16 12
set_option maxRecDepth 100000 in
theorem nmX16 : ∀ a, a < 12 → ∀ b, b < 12 → a ≠ b → (TX16 a).2.1 ≠ (TX16 b).2.1 := by decide +kernel
set_option maxRecDepth 100000 in
theorem tyX16_ok : ∀ k, k < 12 → parseFieldDescriptor (TX16 k).2.2.1 = some (tyX16 k) := by decide +kernel
set_option maxRecDepth 100000 in
theorem in_X16 : ∀ w ∈ wsX160, w ∈ lw_all := lw_in wsX160 [1056, 1058, 1060, 1062, 1064, 1066, 1068, 1070, 1072, 1074, 1076, 1078] (by decide +kernel) (by decide +kernel)
def RX17 : String := "TypeHouse$Letters"
def TX17 : u_T := fun k => match k with
  | 0 => ("TypeHouse$Letters", "letters", "[B", true)
  | 1 => ("TypeHouse$Letters", "numbers", "[B", true)
  | _ => ("TypeHouse$Letters", "size", "I", false)
def tyX17 : Nat → FieldType := fun k => match k with
  | 0 => .array .byte
  | 1 => .array .byte
  | _ => .int
abbrev wsX170 : List Cond := u_ws RX17 TX17 3
set_option maxRecDepth 100000 in
theorem nmX17 : ∀ a, a < 3 → ∀ b, b < 3 → a ≠ b → (TX17 a).2.1 ≠ (TX17 b).2.1 := by decide +kernel
set_option maxRecDepth 100000 in
theorem tyX17_ok : ∀ k, k < 3 → parseFieldDescriptor (TX17 k).2.2.1 = some (tyX17 k) := by decide +kernel
set_option maxRecDepth 100000 in
theorem in_X17 : ∀ w ∈ wsX170, w ∈ lw_all := lw_in wsX170 [1099, 1101, 1103] (by decide +kernel) (by decide +kernel)
def RX18 : String := "TypeHouse$Setter"
def TX18 : u_T := fun k => match k with
  | 0 => ("TypeHouse$Setter", "kinds", "[I", true)
  | 1 => ("TypeHouse$Setter", "kerns", "[I", true)
  | 2 => ("TypeHouse$Setter", "nexts", "[I", true)
  | 3 => ("TypeHouse$Setter", "made", "I", false)
  | 4 => ("TypeHouse$Setter", "size", "I", false)
  | _ => ("TypeHouse$Setter", "order", "[I", true)
def tyX18 : Nat → FieldType := fun k => match k with
  | 0 => .array .int
  | 1 => .array .int
  | 2 => .array .int
  | 3 => .int
  | 4 => .int
  | _ => .array .int
abbrev wsX180 : List Cond := u_ws RX18 TX18 6
set_option maxRecDepth 100000 in
theorem nmX18 : ∀ a, a < 6 → ∀ b, b < 6 → a ≠ b → (TX18 a).2.1 ≠ (TX18 b).2.1 := by decide +kernel
set_option maxRecDepth 100000 in
theorem tyX18_ok : ∀ k, k < 6 → parseFieldDescriptor (TX18 k).2.2.1 = some (tyX18 k) := by decide +kernel
set_option maxRecDepth 100000 in
theorem in_X18 : ∀ w ∈ wsX180, w ∈ lw_all := lw_in wsX180 [1144, 1146, 1148, 1150, 1152, 1154] (by decide +kernel) (by decide +kernel)
def RX19 : String := "TypeHouse$Packer"
def TX19 : u_T := fun k => match k with
  | 0 => ("TypeHouse$Packer", "pool", "LTypeHouse$Pool;", true)
  | 1 => ("TypeHouse$Packer", "boxes", "[LTypeHouse$Box;", true)
  | 2 => ("TypeHouse$Packer", "stretch", "[J", true)
  | 3 => ("TypeHouse$Packer", "shrink", "[J", true)
  | 4 => ("TypeHouse$Packer", "good", "Z", false)
  | 5 => ("TypeHouse$Packer", "below", "Z", false)
  | 6 => ("TypeHouse$Packer", "length", "J", false)
  | 7 => ("TypeHouse$Packer", "across", "J", false)
  | 8 => ("TypeHouse$Packer", "under", "J", false)
  | _ => ("TypeHouse$Packer", "depth", "J", false)
def tyX19 : Nat → FieldType := fun k => match k with
  | 0 => .object "TypeHouse$Pool"
  | 1 => .array (.object "TypeHouse$Box")
  | 2 => .array .long
  | 3 => .array .long
  | 4 => .boolean
  | 5 => .boolean
  | 6 => .long
  | 7 => .long
  | 8 => .long
  | _ => .long
abbrev wsX190 : List Cond := u_ws RX19 TX19 10
set_option maxRecDepth 100000 in
theorem nmX19 : ∀ a, a < 10 → ∀ b, b < 10 → a ≠ b → (TX19 a).2.1 ≠ (TX19 b).2.1 := by decide +kernel
set_option maxRecDepth 100000 in
theorem tyX19_ok : ∀ k, k < 10 → parseFieldDescriptor (TX19 k).2.2.1 = some (tyX19 k) := by decide +kernel
set_option maxRecDepth 100000 in
theorem in_X19 : ∀ w ∈ wsX190, w ∈ lw_all := lw_in wsX190 [1173, 1175, 1177, 1179, 1181, 1183, 1185, 1187, 1189, 1191] (by decide +kernel) (by decide +kernel)
def RX20 : String := "TypeHouse$Layout"
def TX20 : u_T := fun k => match k with
  | 0 => ("TypeHouse$Layout", "pool", "LTypeHouse$Pool;", true)
  | 1 => ("TypeHouse$Layout", "boxes", "[LTypeHouse$Box;", true)
  | 2 => ("TypeHouse$Layout", "marks", "[J", true)
  | 3 => ("TypeHouse$Layout", "size", "I", false)
  | 4 => ("TypeHouse$Layout", "open", "[LTypeHouse$Box;", true)
  | 5 => ("TypeHouse$Layout", "xs", "[J", true)
  | 6 => ("TypeHouse$Layout", "ys", "[J", true)
  | 7 => ("TypeHouse$Layout", "nexts", "[I", true)
  | _ => ("TypeHouse$Layout", "depth", "I", false)
def tyX20 : Nat → FieldType := fun k => match k with
  | 0 => .object "TypeHouse$Pool"
  | 1 => .array (.object "TypeHouse$Box")
  | 2 => .array .long
  | 3 => .int
  | 4 => .array (.object "TypeHouse$Box")
  | 5 => .array .long
  | 6 => .array .long
  | 7 => .array .int
  | _ => .int
abbrev wsX200 : List Cond := u_ws RX20 TX20 9
set_option maxRecDepth 100000 in
theorem nmX20 : ∀ a, a < 9 → ∀ b, b < 9 → a ≠ b → (TX20 a).2.1 ≠ (TX20 b).2.1 := by decide +kernel
set_option maxRecDepth 100000 in
theorem tyX20_ok : ∀ k, k < 9 → parseFieldDescriptor (TX20 k).2.2.1 = some (tyX20 k) := by decide +kernel
set_option maxRecDepth 100000 in
theorem in_X20 : ∀ w ∈ wsX200, w ∈ lw_all := lw_in wsX200 [1212, 1214, 1216, 1218, 1220, 1222, 1224, 1226, 1228] (by decide +kernel) (by decide +kernel)
def RX21 : String := "TypeHouse$Breaker"
def TX21 : u_T := fun k => match k with
  | 0 => ("TypeHouse$Breaker", "items", "LTypeHouse$Paragraph;", true)
  | 1 => ("TypeHouse$Breaker", "measure", "LTypeHouse$Measure;", true)
  | 2 => ("TypeHouse$Breaker", "set", "[I", true)
  | 3 => ("TypeHouse$Breaker", "wide", "[I", true)
  | 4 => ("TypeHouse$Breaker", "around", "[I", true)
  | 5 => ("TypeHouse$Breaker", "pass", "LTypeHouse$Pass;", true)
  | 6 => ("TypeHouse$Breaker", "made", "I", false)
  | 7 => ("TypeHouse$Breaker", "count", "I", false)
  | 8 => ("TypeHouse$Breaker", "ends", "[I", true)
  | _ => ("TypeHouse$Breaker", "firsts", "[I", true)
def tyX21 : Nat → FieldType := fun k => match k with
  | 0 => .object "TypeHouse$Paragraph"
  | 1 => .object "TypeHouse$Measure"
  | 2 => .array .int
  | 3 => .array .int
  | 4 => .array .int
  | 5 => .object "TypeHouse$Pass"
  | 6 => .int
  | 7 => .int
  | 8 => .array .int
  | _ => .array .int
abbrev wsX210 : List Cond := u_ws RX21 TX21 10
set_option maxRecDepth 100000 in
theorem nmX21 : ∀ a, a < 10 → ∀ b, b < 10 → a ≠ b → (TX21 a).2.1 ≠ (TX21 b).2.1 := by decide +kernel
set_option maxRecDepth 100000 in
theorem tyX21_ok : ∀ k, k < 10 → parseFieldDescriptor (TX21 k).2.2.1 = some (tyX21 k) := by decide +kernel
set_option maxRecDepth 100000 in
theorem in_X21 : ∀ w ∈ wsX210, w ∈ lw_all := lw_in wsX210 [1464, 1466, 1468, 1470, 1472, 1474, 1476, 1478, 1480, 1482] (by decide +kernel) (by decide +kernel)
def RX22 : String := "TypeHouse$Paragraph"
def TX22 : u_T := fun k => match k with
  | 0 => ("TypeHouse$Paragraph", "kinds", "[B", true)
  | 1 => ("TypeHouse$Paragraph", "a", "[I", true)
  | 2 => ("TypeHouse$Paragraph", "b", "[I", true)
  | 3 => ("TypeHouse$Paragraph", "c", "[I", true)
  | 4 => ("TypeHouse$Paragraph", "d", "[I", true)
  | _ => ("TypeHouse$Paragraph", "size", "I", false)
def tyX22 : Nat → FieldType := fun k => match k with
  | 0 => .array .byte
  | 1 => .array .int
  | 2 => .array .int
  | 3 => .array .int
  | 4 => .array .int
  | _ => .int
abbrev wsX220 : List Cond := u_ws RX22 TX22 6
set_option maxRecDepth 100000 in
theorem nmX22 : ∀ a, a < 6 → ∀ b, b < 6 → a ≠ b → (TX22 a).2.1 ≠ (TX22 b).2.1 := by decide +kernel
set_option maxRecDepth 100000 in
theorem tyX22_ok : ∀ k, k < 6 → parseFieldDescriptor (TX22 k).2.2.1 = some (tyX22 k) := by decide +kernel
set_option maxRecDepth 100000 in
theorem in_X22 : ∀ w ∈ wsX220, w ∈ lw_all := lw_in wsX220 [1264, 1266, 1268, 1270, 1272, 1274] (by decide +kernel) (by decide +kernel)
def RX23 : String := "TypeHouse$Measure"
def TX23 : u_T := fun k => match k with
  | 0 => ("TypeHouse$Measure", "widths", "[J", true)
  | 1 => ("TypeHouse$Measure", "shrinks", "[J", true)
  | 2 => ("TypeHouse$Measure", "stretches", "[J", true)
  | 3 => ("TypeHouse$Measure", "replaced", "[Z", true)
  | 4 => ("TypeHouse$Measure", "firsts", "[I", true)
  | 5 => ("TypeHouse$Measure", "around", "[J", true)
  | 6 => ("TypeHouse$Measure", "aroundWidth", "J", false)
  | 7 => ("TypeHouse$Measure", "aroundShrink", "J", false)
  | 8 => ("TypeHouse$Measure", "width", "J", false)
  | 9 => ("TypeHouse$Measure", "shrink", "J", false)
  | 10 => ("TypeHouse$Measure", "stretch", "J", false)
  | _ => ("TypeHouse$Measure", "endless", "Z", false)
def tyX23 : Nat → FieldType := fun k => match k with
  | 0 => .array .long
  | 1 => .array .long
  | 2 => .array .long
  | 3 => .array .boolean
  | 4 => .array .int
  | 5 => .array .long
  | 6 => .long
  | 7 => .long
  | 8 => .long
  | 9 => .long
  | 10 => .long
  | _ => .boolean
abbrev wsX230 : List Cond := u_ws RX23 TX23 12
set_option maxRecDepth 100000 in
theorem nmX23 : ∀ a, a < 12 → ∀ b, b < 12 → a ≠ b → (TX23 a).2.1 ≠ (TX23 b).2.1 := by decide +kernel
set_option maxRecDepth 100000 in
theorem tyX23_ok : ∀ k, k < 12 → parseFieldDescriptor (TX23 k).2.2.1 = some (tyX23 k) := by decide +kernel
set_option maxRecDepth 100000 in
theorem in_X23 : ∀ w ∈ wsX230, w ∈ lw_all := lw_in wsX230 [1304, 1306, 1308, 1310, 1312, 1314, 1316, 1318, 1320, 1322, 1324, 1326] (by decide +kernel) (by decide +kernel)
def RX24 : String := "TypeHouse$Pass"
def TX24 : u_T := fun k => match k with
  | 0 => ("TypeHouse$Pass", "items", "LTypeHouse$Paragraph;", true)
  | 1 => ("TypeHouse$Pass", "measure", "LTypeHouse$Measure;", true)
  | 2 => ("TypeHouse$Pass", "set", "[I", true)
  | 3 => ("TypeHouse$Pass", "wide", "[I", true)
  | 4 => ("TypeHouse$Pass", "nodes", "LTypeHouse$Nodes;", true)
  | 5 => ("TypeHouse$Pass", "fitting", "LTypeHouse$Fitting;", true)
  | 6 => ("TypeHouse$Pass", "best", "[I", true)
  | 7 => ("TypeHouse$Pass", "totals", "[J", true)
  | 8 => ("TypeHouse$Pass", "hyphens", "Z", false)
  | 9 => ("TypeHouse$Pass", "last", "Z", false)
  | 10 => ("TypeHouse$Pass", "tolerance", "I", false)
  | 11 => ("TypeHouse$Pass", "most", "I", false)
  | 12 => ("TypeHouse$Pass", "least", "I", false)
  | 13 => ("TypeHouse$Pass", "feasible", "Z", false)
  | 14 => ("TypeHouse$Pass", "looks", "I", false)
  | _ => ("TypeHouse$Pass", "allLooks", "I", false)
def tyX24 : Nat → FieldType := fun k => match k with
  | 0 => .object "TypeHouse$Paragraph"
  | 1 => .object "TypeHouse$Measure"
  | 2 => .array .int
  | 3 => .array .int
  | 4 => .object "TypeHouse$Nodes"
  | 5 => .object "TypeHouse$Fitting"
  | 6 => .array .int
  | 7 => .array .long
  | 8 => .boolean
  | 9 => .boolean
  | 10 => .int
  | 11 => .int
  | 12 => .int
  | 13 => .boolean
  | 14 => .int
  | _ => .int
abbrev wsX240 : List Cond := u_ws RX24 TX24 16
set_option maxRecDepth 100000 in
theorem nmX24 : ∀ a, a < 16 → ∀ b, b < 16 → a ≠ b → (TX24 a).2.1 ≠ (TX24 b).2.1 := by decide +kernel
set_option maxRecDepth 100000 in
theorem tyX24_ok : ∀ k, k < 16 → parseFieldDescriptor (TX24 k).2.2.1 = some (tyX24 k) := by decide +kernel
set_option maxRecDepth 100000 in
theorem in_X24 : ∀ w ∈ wsX240, w ∈ lw_all := lw_in wsX240 [1413, 1415, 1417, 1419, 1421, 1423, 1425, 1427, 1429, 1431, 1433, 1435, 1437, 1439, 1441, 1443] (by decide +kernel) (by decide +kernel)
def RX25 : String := "TypeHouse$Nodes"
def TX25 : u_T := fun k => match k with
  | 0 => ("TypeHouse$Nodes", "places", "[I", true)
  | 1 => ("TypeHouse$Nodes", "lines", "[I", true)
  | 2 => ("TypeHouse$Nodes", "fits", "[B", true)
  | 3 => ("TypeHouse$Nodes", "totals", "[J", true)
  | 4 => ("TypeHouse$Nodes", "formers", "[I", true)
  | 5 => ("TypeHouse$Nodes", "nexts", "[I", true)
  | 6 => ("TypeHouse$Nodes", "size", "I", false)
  | _ => ("TypeHouse$Nodes", "alive", "I", false)
def tyX25 : Nat → FieldType := fun k => match k with
  | 0 => .array .int
  | 1 => .array .int
  | 2 => .array .byte
  | 3 => .array .long
  | 4 => .array .int
  | 5 => .array .int
  | 6 => .int
  | _ => .int
abbrev wsX250 : List Cond := u_ws RX25 TX25 8
set_option maxRecDepth 100000 in
theorem nmX25 : ∀ a, a < 8 → ∀ b, b < 8 → a ≠ b → (TX25 a).2.1 ≠ (TX25 b).2.1 := by decide +kernel
set_option maxRecDepth 100000 in
theorem tyX25_ok : ∀ k, k < 8 → parseFieldDescriptor (TX25 k).2.2.1 = some (tyX25 k) := by decide +kernel
set_option maxRecDepth 100000 in
theorem in_X25 : ∀ w ∈ wsX250, w ∈ lw_all := lw_in wsX250 [1360, 1362, 1364, 1366, 1368, 1370, 1372, 1374] (by decide +kernel) (by decide +kernel)
def RX26 : String := "TypeHouse$Fitting"
def TX26 : u_T := fun k => match k with
  | 0 => ("TypeHouse$Fitting", "badness", "I", false)
  | _ => ("TypeHouse$Fitting", "fit", "I", false)
def tyX26 : Nat → FieldType := fun k => match k with
  | 0 => .int
  | _ => .int
abbrev wsX260 : List Cond := u_ws RX26 TX26 2
set_option maxRecDepth 100000 in
theorem nmX26 : ∀ a, a < 2 → ∀ b, b < 2 → a ≠ b → (TX26 a).2.1 ≠ (TX26 b).2.1 := by decide +kernel
set_option maxRecDepth 100000 in
theorem tyX26_ok : ∀ k, k < 2 → parseFieldDescriptor (TX26 k).2.2.1 = some (tyX26 k) := by decide +kernel
set_option maxRecDepth 100000 in
theorem in_X26 : ∀ w ∈ wsX260, w ∈ lw_all := lw_in wsX260 [1387, 1389] (by decide +kernel) (by decide +kernel)
def RX27 : String := "TypeHouse$PageItems"
def TX27 : u_T := fun k => match k with
  | 0 => ("TypeHouse$PageItems", "kinds", "[B", false)
  | 1 => ("TypeHouse$PageItems", "firsts", "[I", false)
  | 2 => ("TypeHouse$PageItems", "seconds", "[I", false)
  | 3 => ("TypeHouse$PageItems", "thirds", "[I", false)
  | 4 => ("TypeHouse$PageItems", "orders", "[B", false)
  | 5 => ("TypeHouse$PageItems", "extras", "[I", false)
  | _ => ("TypeHouse$PageItems", "size", "I", false)
def tyX27 : Nat → FieldType := fun k => match k with
  | 0 => .array .byte
  | 1 => .array .int
  | 2 => .array .int
  | 3 => .array .int
  | 4 => .array .byte
  | 5 => .array .int
  | _ => .int
abbrev wsX270 : List Cond := u_ws RX27 TX27 7
set_option maxRecDepth 100000 in
theorem nmX27 : ∀ a, a < 7 → ∀ b, b < 7 → a ≠ b → (TX27 a).2.1 ≠ (TX27 b).2.1 := by decide +kernel
set_option maxRecDepth 100000 in
theorem tyX27_ok : ∀ k, k < 7 → parseFieldDescriptor (TX27 k).2.2.1 = some (tyX27 k) := by decide +kernel
set_option maxRecDepth 100000 in
theorem in_X27 : ∀ w ∈ wsX270, w ∈ lw_all := lw_in wsX270 [1512, 1514, 1516, 1518, 1520, 1522, 1524] (by decide +kernel) (by decide +kernel)
def RX28 : String := "TypeHouse$PageBuilder"
def TX28 : u_T := fun k => match k with
  | 0 => ("TypeHouse$PageBuilder", "items", "LTypeHouse$PageItems;", true)
  | 1 => ("TypeHouse$PageBuilder", "sums", "LTypeHouse$Sums;", true)
  | 2 => ("TypeHouse$PageBuilder", "best", "LTypeHouse$Sums;", true)
  | 3 => ("TypeHouse$PageBuilder", "height", "I", false)
  | 4 => ("TypeHouse$PageBuilder", "top", "I", false)
  | 5 => ("TypeHouse$PageBuilder", "greatest", "I", false)
  | 6 => ("TypeHouse$PageBuilder", "page", "LTypeHouse$Page;", false)
  | 7 => ("TypeHouse$PageBuilder", "ended", "LTypeHouse$Page;", false)
  | 8 => ("TypeHouse$PageBuilder", "bestBreak", "I", false)
  | 9 => ("TypeHouse$PageBuilder", "leastCost", "I", false)
  | _ => ("TypeHouse$PageBuilder", "at", "I", false)
def tyX28 : Nat → FieldType := fun k => match k with
  | 0 => .object "TypeHouse$PageItems"
  | 1 => .object "TypeHouse$Sums"
  | 2 => .object "TypeHouse$Sums"
  | 3 => .int
  | 4 => .int
  | 5 => .int
  | 6 => .object "TypeHouse$Page"
  | 7 => .object "TypeHouse$Page"
  | 8 => .int
  | 9 => .int
  | _ => .int
abbrev wsX280 : List Cond := u_ws RX28 TX28 11
set_option maxRecDepth 100000 in
theorem nmX28 : ∀ a, a < 11 → ∀ b, b < 11 → a ≠ b → (TX28 a).2.1 ≠ (TX28 b).2.1 := by decide +kernel
set_option maxRecDepth 100000 in
theorem tyX28_ok : ∀ k, k < 11 → parseFieldDescriptor (TX28 k).2.2.1 = some (tyX28 k) := by decide +kernel
set_option maxRecDepth 100000 in
theorem in_X28 : ∀ w ∈ wsX280, w ∈ lw_all := lw_in wsX280 [1633, 1635, 1637, 1639, 1641, 1643, 1645, 1647, 1649, 1651, 1653] (by decide +kernel) (by decide +kernel)
def RX29 : String := "TypeHouse$Sums"
def TX29 : u_T := fun k => match k with
  | 0 => ("TypeHouse$Sums", "stretch", "[J", true)
  | 1 => ("TypeHouse$Sums", "shrink", "J", false)
  | 2 => ("TypeHouse$Sums", "length", "J", false)
  | _ => ("TypeHouse$Sums", "depth", "J", false)
def tyX29 : Nat → FieldType := fun k => match k with
  | 0 => .array .long
  | 1 => .long
  | 2 => .long
  | _ => .long
abbrev wsX290 : List Cond := u_ws RX29 TX29 4
set_option maxRecDepth 100000 in
theorem nmX29 : ∀ a, a < 4 → ∀ b, b < 4 → a ≠ b → (TX29 a).2.1 ≠ (TX29 b).2.1 := by decide +kernel
set_option maxRecDepth 100000 in
theorem tyX29_ok : ∀ k, k < 4 → parseFieldDescriptor (TX29 k).2.2.1 = some (tyX29 k) := by decide +kernel
set_option maxRecDepth 100000 in
theorem in_X29 : ∀ w ∈ wsX290, w ∈ lw_all := lw_in wsX290 [1548, 1550, 1552, 1554] (by decide +kernel) (by decide +kernel)
def RX30 : String := "TypeHouse$Page"
def TX30 : u_T := fun k => match k with
  | 0 => ("TypeHouse$Page", "sums", "LTypeHouse$Sums;", true)
  | 1 => ("TypeHouse$Page", "height", "I", false)
  | 2 => ("TypeHouse$Page", "top", "I", false)
  | 3 => ("TypeHouse$Page", "greatest", "I", false)
  | 4 => ("TypeHouse$Page", "first", "I", false)
  | 5 => ("TypeHouse$Page", "end", "I", false)
  | 6 => ("TypeHouse$Page", "cost", "I", false)
  | 7 => ("TypeHouse$Page", "ender", "I", false)
  | 8 => ("TypeHouse$Page", "badness", "I", false)
  | 9 => ("TypeHouse$Page", "excess", "J", false)
  | 10 => ("TypeHouse$Page", "order", "I", false)
  | _ => ("TypeHouse$Page", "total", "J", false)
def tyX30 : Nat → FieldType := fun k => match k with
  | 0 => .object "TypeHouse$Sums"
  | 1 => .int
  | 2 => .int
  | 3 => .int
  | 4 => .int
  | 5 => .int
  | 6 => .int
  | 7 => .int
  | 8 => .int
  | 9 => .long
  | 10 => .int
  | _ => .long
abbrev wsX300 : List Cond := u_ws RX30 TX30 12
set_option maxRecDepth 100000 in
theorem nmX30 : ∀ a, a < 12 → ∀ b, b < 12 → a ≠ b → (TX30 a).2.1 ≠ (TX30 b).2.1 := by decide +kernel
set_option maxRecDepth 100000 in
theorem tyX30_ok : ∀ k, k < 12 → parseFieldDescriptor (TX30 k).2.2.1 = some (tyX30 k) := by decide +kernel
set_option maxRecDepth 100000 in
theorem in_X30 : ∀ w ∈ wsX300, w ∈ lw_all := lw_in wsX300 [1584, 1586, 1588, 1590, 1592, 1594, 1596, 1598, 1600, 1602, 1604, 1606] (by decide +kernel) (by decide +kernel)
def RX31 : String := "TypeHouse$Writer"
def TX31 : u_T := fun k => match k with
  | 0 => ("TypeHouse$Writer", "fonts", "LTypeHouse$FontTable;", true)
  | 1 => ("TypeHouse$Writer", "out", "LTypeHouse$FileBytes;", true)
  | 2 => ("TypeHouse$Writer", "counts", "[I", true)
  | 3 => ("TypeHouse$Writer", "fontsOf", "[I", true)
  | 4 => ("TypeHouse$Writer", "whats", "[I", true)
  | 5 => ("TypeHouse$Writer", "xs", "[I", true)
  | 6 => ("TypeHouse$Writer", "ys", "[I", true)
  | 7 => ("TypeHouse$Writer", "heights", "[I", true)
  | 8 => ("TypeHouse$Writer", "marks", "I", false)
  | 9 => ("TypeHouse$Writer", "rights", "LTypeHouse$Moves;", true)
  | 10 => ("TypeHouse$Writer", "downs", "LTypeHouse$Moves;", true)
  | 11 => ("TypeHouse$Writer", "comment", "I", false)
  | 12 => ("TypeHouse$Writer", "commentSize", "I", false)
  | 13 => ("TypeHouse$Writer", "pages", "I", false)
  | 14 => ("TypeHouse$Writer", "lastPage", "I", false)
  | 15 => ("TypeHouse$Writer", "greatestV", "I", false)
  | 16 => ("TypeHouse$Writer", "greatestH", "I", false)
  | _ => ("TypeHouse$Writer", "closed", "Z", false)
def tyX31 : Nat → FieldType := fun k => match k with
  | 0 => .object "TypeHouse$FontTable"
  | 1 => .object "TypeHouse$FileBytes"
  | 2 => .array .int
  | 3 => .array .int
  | 4 => .array .int
  | 5 => .array .int
  | 6 => .array .int
  | 7 => .array .int
  | 8 => .int
  | 9 => .object "TypeHouse$Moves"
  | 10 => .object "TypeHouse$Moves"
  | 11 => .int
  | 12 => .int
  | 13 => .int
  | 14 => .int
  | 15 => .int
  | 16 => .int
  | _ => .boolean
abbrev wsX310 : List Cond := u_ws RX31 TX31 18
set_option maxRecDepth 100000 in
theorem nmX31 : ∀ a, a < 18 → ∀ b, b < 18 → a ≠ b → (TX31 a).2.1 ≠ (TX31 b).2.1 := by decide +kernel
set_option maxRecDepth 100000 in
theorem tyX31_ok : ∀ k, k < 18 → parseFieldDescriptor (TX31 k).2.2.1 = some (tyX31 k) := by decide +kernel
set_option maxRecDepth 100000 in
theorem in_X31 : ∀ w ∈ wsX310, w ∈ lw_all := lw_in wsX310 [1736, 1738, 1740, 1742, 1744, 1746, 1748, 1750, 1752, 1754, 1756, 1758, 1760, 1762, 1764, 1766, 1768, 1770] (by decide +kernel) (by decide +kernel)
def RX32 : String := "TypeHouse$FileBytes"
def TX32 : u_T := fun k => match k with
  | 0 => ("TypeHouse$FileBytes", "all", "[B", true)
  | _ => ("TypeHouse$FileBytes", "size", "I", false)
def tyX32 : Nat → FieldType := fun k => match k with
  | 0 => .array .byte
  | _ => .int
abbrev wsX320 : List Cond := u_ws RX32 TX32 2
set_option maxRecDepth 100000 in
theorem nmX32 : ∀ a, a < 2 → ∀ b, b < 2 → a ≠ b → (TX32 a).2.1 ≠ (TX32 b).2.1 := by decide +kernel
set_option maxRecDepth 100000 in
theorem tyX32_ok : ∀ k, k < 2 → parseFieldDescriptor (TX32 k).2.2.1 = some (tyX32 k) := by decide +kernel
set_option maxRecDepth 100000 in
theorem in_X32 : ∀ w ∈ wsX320, w ∈ lw_all := lw_in wsX320 [1675, 1677] (by decide +kernel) (by decide +kernel)
def RX33 : String := "TypeHouse$Moves"
def TX33 : u_T := fun k => match k with
  | 0 => ("TypeHouse$Moves", "first", "I", true)
  | 1 => ("TypeHouse$Moves", "plain", "I", true)
  | 2 => ("TypeHouse$Moves", "all", "[I", true)
  | 3 => ("TypeHouse$Moves", "lasts", "[I", true)
  | 4 => ("TypeHouse$Moves", "size", "I", false)
  | 5 => ("TypeHouse$Moves", "at", "I", false)
  | 6 => ("TypeHouse$Moves", "one", "I", false)
  | 7 => ("TypeHouse$Moves", "other", "I", false)
  | _ => ("TypeHouse$Moves", "table", "[I", true)
def tyX33 : Nat → FieldType := fun k => match k with
  | 0 => .int
  | 1 => .int
  | 2 => .array .int
  | 3 => .array .int
  | 4 => .int
  | 5 => .int
  | 6 => .int
  | 7 => .int
  | _ => .array .int
abbrev wsX330 : List Cond := u_ws RX33 TX33 9
set_option maxRecDepth 100000 in
theorem nmX33 : ∀ a, a < 9 → ∀ b, b < 9 → a ≠ b → (TX33 a).2.1 ≠ (TX33 b).2.1 := by decide +kernel
set_option maxRecDepth 100000 in
theorem tyX33_ok : ∀ k, k < 9 → parseFieldDescriptor (TX33 k).2.2.1 = some (tyX33 k) := by decide +kernel
set_option maxRecDepth 100000 in
theorem in_X33 : ∀ w ∈ wsX330, w ∈ lw_all := lw_in wsX330 [1695, 1697, 1699, 1701, 1703, 1705, 1707, 1709, 1711] (by decide +kernel) (by decide +kernel)
def RX34 : String := "TypeHouse$Lists"
def TX34 : u_T := fun k => match k with
  | 0 => ("TypeHouse$Lists", "rows", "[I", false)
  | _ => ("TypeHouse$Lists", "size", "I", false)
def tyX34 : Nat → FieldType := fun k => match k with
  | 0 => .array .int
  | _ => .int
abbrev wsX340 : List Cond := u_ws RX34 TX34 2
set_option maxRecDepth 100000 in
theorem nmX34 : ∀ a, a < 2 → ∀ b, b < 2 → a ≠ b → (TX34 a).2.1 ≠ (TX34 b).2.1 := by decide +kernel
set_option maxRecDepth 100000 in
theorem tyX34_ok : ∀ k, k < 2 → parseFieldDescriptor (TX34 k).2.2.1 = some (tyX34 k) := by decide +kernel
set_option maxRecDepth 100000 in
theorem in_X34 : ∀ w ∈ wsX340, w ∈ lw_all := lw_in wsX340 [1782, 1784] (by decide +kernel) (by decide +kernel)
def RX35 : String := "TypeHouseModel"
def TX35 : u_T := fun k => match k with
  | 0 => ("TypeHouseModel", "thrown", "I", false)
  | 1 => ("TypeHouseModel", "taped", "I", false)
  | 2 => ("TypeHouseModel", "tape", "[B", true)
  | 3 => ("TypeHouseModel", "fuel", "I", false)
  | 4 => ("TypeHouseModel", "slots", "[LTypeHouseModel$Metrics;", true)
  | 5 => ("TypeHouseModel", "hyphens", "LTypeHouseModel$Hyphens;", true)
  | 6 => ("TypeHouseModel", "breaker", "LTypeHouseModel$Breaker;", true)
  | 7 => ("TypeHouseModel", "device", "LTypeHouseModel$Device;", true)
  | 8 => ("TypeHouseModel", "sourceSize", "I", false)
  | 9 => ("TypeHouseModel", "nextLine", "I", false)
  | 10 => ("TypeHouseModel", "lines", "I", false)
  | 11 => ("TypeHouseModel", "line", "[I", true)
  | 12 => ("TypeHouseModel", "lineSize", "I", false)
  | 13 => ("TypeHouseModel", "linePlace", "I", false)
  | 14 => ("TypeHouseModel", "state", "I", false)
  | 15 => ("TypeHouseModel", "names", "I", false)
  | 16 => ("TypeHouseModel", "nameChars", "[B", true)
  | 17 => ("TypeHouseModel", "nameSize", "[I", true)
  | 18 => ("TypeHouseModel", "spelled", "[I", true)
  | 19 => ("TypeHouseModel", "spelledSize", "I", false)
  | 20 => ("TypeHouseModel", "madeNames", "[I", true)
  | 21 => ("TypeHouseModel", "level", "I", false)
  | 22 => ("TypeHouseModel", "all", "[I", true)
  | 23 => ("TypeHouseModel", "groupKind", "[I", true)
  | 24 => ("TypeHouseModel", "boxBelow", "[Z", true)
  | 25 => ("TypeHouseModel", "boxHow", "[I", true)
  | 26 => ("TypeHouseModel", "boxSize", "[I", true)
  | 27 => ("TypeHouseModel", "boxGoal", "[I", true)
  | 28 => ("TypeHouseModel", "boxShift", "[I", true)
  | 29 => ("TypeHouseModel", "boxGlobal", "[Z", true)
  | 30 => ("TypeHouseModel", "macros", "I", false)
  | 31 => ("TypeHouseModel", "parameters", "[I", true)
  | 32 => ("TypeHouseModel", "heads", "[I", true)
  | 33 => ("TypeHouseModel", "bodies", "[I", true)
  | 34 => ("TypeHouseModel", "ends", "[I", true)
  | 35 => ("TypeHouseModel", "stored", "I", false)
  | 36 => ("TypeHouseModel", "store", "[I", true)
  | 37 => ("TypeHouseModel", "pending", "I", false)
  | 38 => ("TypeHouseModel", "row", "[I", true)
  | 39 => ("TypeHouseModel", "argument", "[I", true)
  | 40 => ("TypeHouseModel", "argumentSize", "[I", true)
  | 41 => ("TypeHouseModel", "conditions", "I", false)
  | 42 => ("TypeHouseModel", "isCase", "[Z", true)
  | 43 => ("TypeHouseModel", "decided", "[I", true)
  | 44 => ("TypeHouseModel", "ticks", "I", false)
  | 45 => ("TypeHouseModel", "open", "I", false)
  | 46 => ("TypeHouseModel", "fault", "I", false)
  | 47 => ("TypeHouseModel", "over", "Z", false)
  | 48 => ("TypeHouseModel", "fonts", "I", false)
  | 49 => ("TypeHouseModel", "fontSlot", "[I", true)
  | 50 => ("TypeHouseModel", "fontSize", "[I", true)
  | 51 => ("TypeHouseModel", "lists", "I", false)
  | 52 => ("TypeHouseModel", "listMode", "[I", true)
  | 53 => ("TypeHouseModel", "listStart", "[I", true)
  | 54 => ("TypeHouseModel", "listDepth", "[I", true)
  | 55 => ("TypeHouseModel", "pool", "[I", false)
  | 56 => ("TypeHouseModel", "pooled", "I", false)
  | 57 => ("TypeHouseModel", "wordFont", "I", false)
  | 58 => ("TypeHouseModel", "wordSize", "I", false)
  | 59 => ("TypeHouseModel", "word", "[I", true)
  | 60 => ("TypeHouseModel", "wholeKinds", "[I", true)
  | 61 => ("TypeHouseModel", "wholeWide", "[I", true)
  | 62 => ("TypeHouseModel", "wholeSize", "I", false)
  | 63 => ("TypeHouseModel", "items", "[I", false)
  | 64 => ("TypeHouseModel", "itemCount", "I", false)
  | 65 => ("TypeHouseModel", "boxes", "I", false)
  | 66 => ("TypeHouseModel", "boxFrom", "[I", true)
  | 67 => ("TypeHouseModel", "isBelow", "[Z", true)
  | 68 => ("TypeHouseModel", "width", "[I", true)
  | 69 => ("TypeHouseModel", "height", "[I", true)
  | 70 => ("TypeHouseModel", "depth", "[I", true)
  | 71 => ("TypeHouseModel", "excess", "[I", true)
  | 72 => ("TypeHouseModel", "order", "[I", true)
  | 73 => ("TypeHouseModel", "total", "[I", true)
  | 74 => ("TypeHouseModel", "overfull", "[I", true)
  | 75 => ("TypeHouseModel", "deep", "[I", true)
  | 76 => ("TypeHouseModel", "inAll", "[I", true)
  | 77 => ("TypeHouseModel", "held", "[I", true)
  | 78 => ("TypeHouseModel", "good", "Z", false)
  | 79 => ("TypeHouseModel", "length", "J", false)
  | 80 => ("TypeHouseModel", "before", "J", false)
  | 81 => ("TypeHouseModel", "across", "J", false)
  | 82 => ("TypeHouseModel", "under", "J", false)
  | 83 => ("TypeHouseModel", "stretch", "[J", true)
  | 84 => ("TypeHouseModel", "shrinks", "[J", true)
  | 85 => ("TypeHouseModel", "shrink", "J", false)
  | 86 => ("TypeHouseModel", "outers", "I", false)
  | 87 => ("TypeHouseModel", "outerKind", "[I", true)
  | 88 => ("TypeHouseModel", "one", "[I", true)
  | 89 => ("TypeHouseModel", "two", "[I", true)
  | 90 => ("TypeHouseModel", "three", "[I", true)
  | 91 => ("TypeHouseModel", "orders", "[I", true)
  | 92 => ("TypeHouseModel", "outerBox", "[I", true)
  | 93 => ("TypeHouseModel", "outerShift", "[I", true)
  | 94 => ("TypeHouseModel", "isOpen", "Z", false)
  | 95 => ("TypeHouseModel", "begin", "I", false)
  | 96 => ("TypeHouseModel", "best", "I", false)
  | 97 => ("TypeHouseModel", "least", "I", false)
  | 98 => ("TypeHouseModel", "pageHeight", "I", false)
  | 99 => ("TypeHouseModel", "pageTop", "I", false)
  | 100 => ("TypeHouseModel", "pageDepth", "I", false)
  | 101 => ("TypeHouseModel", "pages", "I", false)
  | 102 => ("TypeHouseModel", "marks", "I", false)
  | 103 => ("TypeHouseModel", "markFont", "[I", true)
  | 104 => ("TypeHouseModel", "markChar", "[I", true)
  | 105 => ("TypeHouseModel", "markX", "[J", true)
  | 106 => ("TypeHouseModel", "markY", "[J", true)
  | 107 => ("TypeHouseModel", "markWidth", "[J", true)
  | 108 => ("TypeHouseModel", "markHeight", "[J", true)
  | 109 => ("TypeHouseModel", "markDepth", "[J", true)
  | 110 => ("TypeHouseModel", "overfulls", "I", false)
  | 111 => ("TypeHouseModel", "lineCount", "I", false)
  | 112 => ("TypeHouseModel", "hyphenCount", "I", false)
  | 113 => ("TypeHouseModel", "nodeCount", "I", false)
  | 114 => ("TypeHouseModel", "glueWidth", "I", false)
  | 115 => ("TypeHouseModel", "glueStretch", "I", false)
  | 116 => ("TypeHouseModel", "glueOrder", "I", false)
  | 117 => ("TypeHouseModel", "glueShrink", "I", false)
  | 118 => ("TypeHouseModel", "above", "J", false)
  | 119 => ("TypeHouseModel", "below", "J", false)
  | 120 => ("TypeHouseModel", "stretchOrder", "I", false)
  | 121 => ("TypeHouseModel", "signed", "I", false)
  | 122 => ("TypeHouseModel", "less", "Z", false)
  | 123 => ("TypeHouseModel", "seen", "[I", true)
  | 124 => ("TypeHouseModel", "softs", "I", false)
  | 125 => ("TypeHouseModel", "softAt", "[I", true)
  | 126 => ("TypeHouseModel", "softReplaces", "[I", true)
  | 127 => ("TypeHouseModel", "lineItems", "[I", false)
  | _ => ("TypeHouseModel", "lineItemCount", "I", false)
def tyX35 : Nat → FieldType := fun k => match k with
  | 0 => .int
  | 1 => .int
  | 2 => .array .byte
  | 3 => .int
  | 4 => .array (.object "TypeHouseModel$Metrics")
  | 5 => .object "TypeHouseModel$Hyphens"
  | 6 => .object "TypeHouseModel$Breaker"
  | 7 => .object "TypeHouseModel$Device"
  | 8 => .int
  | 9 => .int
  | 10 => .int
  | 11 => .array .int
  | 12 => .int
  | 13 => .int
  | 14 => .int
  | 15 => .int
  | 16 => .array .byte
  | 17 => .array .int
  | 18 => .array .int
  | 19 => .int
  | 20 => .array .int
  | 21 => .int
  | 22 => .array .int
  | 23 => .array .int
  | 24 => .array .boolean
  | 25 => .array .int
  | 26 => .array .int
  | 27 => .array .int
  | 28 => .array .int
  | 29 => .array .boolean
  | 30 => .int
  | 31 => .array .int
  | 32 => .array .int
  | 33 => .array .int
  | 34 => .array .int
  | 35 => .int
  | 36 => .array .int
  | 37 => .int
  | 38 => .array .int
  | 39 => .array .int
  | 40 => .array .int
  | 41 => .int
  | 42 => .array .boolean
  | 43 => .array .int
  | 44 => .int
  | 45 => .int
  | 46 => .int
  | 47 => .boolean
  | 48 => .int
  | 49 => .array .int
  | 50 => .array .int
  | 51 => .int
  | 52 => .array .int
  | 53 => .array .int
  | 54 => .array .int
  | 55 => .array .int
  | 56 => .int
  | 57 => .int
  | 58 => .int
  | 59 => .array .int
  | 60 => .array .int
  | 61 => .array .int
  | 62 => .int
  | 63 => .array .int
  | 64 => .int
  | 65 => .int
  | 66 => .array .int
  | 67 => .array .boolean
  | 68 => .array .int
  | 69 => .array .int
  | 70 => .array .int
  | 71 => .array .int
  | 72 => .array .int
  | 73 => .array .int
  | 74 => .array .int
  | 75 => .array .int
  | 76 => .array .int
  | 77 => .array .int
  | 78 => .boolean
  | 79 => .long
  | 80 => .long
  | 81 => .long
  | 82 => .long
  | 83 => .array .long
  | 84 => .array .long
  | 85 => .long
  | 86 => .int
  | 87 => .array .int
  | 88 => .array .int
  | 89 => .array .int
  | 90 => .array .int
  | 91 => .array .int
  | 92 => .array .int
  | 93 => .array .int
  | 94 => .boolean
  | 95 => .int
  | 96 => .int
  | 97 => .int
  | 98 => .int
  | 99 => .int
  | 100 => .int
  | 101 => .int
  | 102 => .int
  | 103 => .array .int
  | 104 => .array .int
  | 105 => .array .long
  | 106 => .array .long
  | 107 => .array .long
  | 108 => .array .long
  | 109 => .array .long
  | 110 => .int
  | 111 => .int
  | 112 => .int
  | 113 => .int
  | 114 => .int
  | 115 => .int
  | 116 => .int
  | 117 => .int
  | 118 => .long
  | 119 => .long
  | 120 => .int
  | 121 => .int
  | 122 => .boolean
  | 123 => .array .int
  | 124 => .int
  | 125 => .array .int
  | 126 => .array .int
  | 127 => .array .int
  | _ => .int
abbrev wsX350 : List Cond := u_ws RX35 TX35 129
set_option maxRecDepth 100000 in
theorem nmX35 : ∀ a, a < 129 → ∀ b, b < 129 → a ≠ b → (TX35 a).2.1 ≠ (TX35 b).2.1 := by decide +kernel
set_option maxRecDepth 100000 in
theorem tyX35_ok : ∀ k, k < 129 → parseFieldDescriptor (TX35 k).2.2.1 = some (tyX35 k) := by decide +kernel
set_option maxRecDepth 100000 in
theorem in_X35 : ∀ w ∈ wsX350, w ∈ lw_all := lw_in wsX350 [4630, 4632, 4634, 4636, 4638, 4640, 4642, 4644, 4646, 4648, 4650, 4652, 4654, 4656, 4658, 4660, 4662, 4664, 4666, 4668, 4670, 4672, 4674, 4676, 4678, 4680, 4682, 4684, 4686, 4688, 4690, 4692, 4694, 4696, 4698, 4700, 4702, 4704, 4706, 4708, 4710, 4712, 4714, 4716, 4718, 4720, 4722, 4724, 4726, 4728, 4730, 4732, 4734, 4736, 4738, 4740, 4742, 4744, 4746, 4748, 4750, 4752, 4754, 4756, 4758, 4760, 4762, 4764, 4766, 4768, 4770, 4772, 4774, 4776, 4778, 4780, 4782, 4784, 4786, 4788, 4790, 4792, 4794, 4796, 4798, 4800, 4802, 4804, 4806, 4808, 4810, 4812, 4814, 4816, 4818, 4820, 4822, 4824, 4826, 4828, 4830, 4832, 4834, 4836, 4838, 4840, 4842, 4844, 4846, 4848, 4850, 4852, 4854, 4856, 4858, 4860, 4862, 4864, 4866, 4868, 4870, 4872, 4874, 4876, 4878, 4880, 4882, 4884, 4886] (by decide +kernel) (by decide +kernel)
def RX36 : String := "TypeHouseModel$Hyphens"
def TX36 : u_T := fun k => match k with
  | 0 => ("TypeHouseModel$Hyphens", "letterOf", "[I", true)
  | 1 => ("TypeHouseModel$Hyphens", "left", "I", false)
  | 2 => ("TypeHouseModel$Hyphens", "right", "I", false)
  | 3 => ("TypeHouseModel$Hyphens", "typed", "I", false)
  | 4 => ("TypeHouseModel$Hyphens", "text", "[I", true)
  | 5 => ("TypeHouseModel$Hyphens", "patterns", "I", false)
  | 6 => ("TypeHouseModel$Hyphens", "letterFrom", "[I", true)
  | 7 => ("TypeHouseModel$Hyphens", "numberFrom", "[I", true)
  | 8 => ("TypeHouseModel$Hyphens", "begins", "[Z", true)
  | 9 => ("TypeHouseModel$Hyphens", "ends", "[Z", true)
  | 10 => ("TypeHouseModel$Hyphens", "letters", "[I", true)
  | 11 => ("TypeHouseModel$Hyphens", "numbers", "[I", true)
  | 12 => ("TypeHouseModel$Hyphens", "told", "I", false)
  | 13 => ("TypeHouseModel$Hyphens", "toldFrom", "[I", true)
  | 14 => ("TypeHouseModel$Hyphens", "toldLetters", "[I", true)
  | 15 => ("TypeHouseModel$Hyphens", "hyphens", "[Z", true)
  | 16 => ("TypeHouseModel$Hyphens", "at", "I", false)
  | 17 => ("TypeHouseModel$Hyphens", "size", "I", false)
  | 18 => ("TypeHouseModel$Hyphens", "begin", "Z", false)
  | 19 => ("TypeHouseModel$Hyphens", "end", "Z", false)
  | 20 => ("TypeHouseModel$Hyphens", "readLetters", "[I", true)
  | 21 => ("TypeHouseModel$Hyphens", "readNumbers", "[I", true)
  | 22 => ("TypeHouseModel$Hyphens", "readHyphens", "[Z", true)
  | 23 => ("TypeHouseModel$Hyphens", "wordSize", "I", false)
  | 24 => ("TypeHouseModel$Hyphens", "word", "[I", true)
  | 25 => ("TypeHouseModel$Hyphens", "values", "[I", true)
  | 26 => ("TypeHouseModel$Hyphens", "found", "I", false)
  | _ => ("TypeHouseModel$Hyphens", "places", "[I", true)
def tyX36 : Nat → FieldType := fun k => match k with
  | 0 => .array .int
  | 1 => .int
  | 2 => .int
  | 3 => .int
  | 4 => .array .int
  | 5 => .int
  | 6 => .array .int
  | 7 => .array .int
  | 8 => .array .boolean
  | 9 => .array .boolean
  | 10 => .array .int
  | 11 => .array .int
  | 12 => .int
  | 13 => .array .int
  | 14 => .array .int
  | 15 => .array .boolean
  | 16 => .int
  | 17 => .int
  | 18 => .boolean
  | 19 => .boolean
  | 20 => .array .int
  | 21 => .array .int
  | 22 => .array .boolean
  | 23 => .int
  | 24 => .array .int
  | 25 => .array .int
  | 26 => .int
  | _ => .array .int
abbrev wsX360 : List Cond := u_ws RX36 TX36 28
set_option maxRecDepth 100000 in
theorem nmX36 : ∀ a, a < 28 → ∀ b, b < 28 → a ≠ b → (TX36 a).2.1 ≠ (TX36 b).2.1 := by decide +kernel
set_option maxRecDepth 100000 in
theorem tyX36_ok : ∀ k, k < 28 → parseFieldDescriptor (TX36 k).2.2.1 = some (tyX36 k) := by decide +kernel
set_option maxRecDepth 100000 in
theorem in_X36 : ∀ w ∈ wsX360, w ∈ lw_all := lw_in wsX360 [4163, 4165, 4167, 4169, 4171, 4173, 4175, 4177, 4179, 4181, 4183, 4185, 4187, 4189, 4191, 4193, 4195, 4197, 4199, 4201, 4203, 4205, 4207, 4209, 4211, 4213, 4215, 4217] (by decide +kernel) (by decide +kernel)
def RX37 : String := "TypeHouseModel$Breaker"
def TX37 : u_T := fun k => match k with
  | 0 => ("TypeHouseModel$Breaker", "thrown", "I", false)
  | 1 => ("TypeHouseModel$Breaker", "count", "I", false)
  | 2 => ("TypeHouseModel$Breaker", "kinds", "[I", true)
  | 3 => ("TypeHouseModel$Breaker", "widths", "[I", true)
  | 4 => ("TypeHouseModel$Breaker", "stretches", "[I", true)
  | 5 => ("TypeHouseModel$Breaker", "orders", "[I", true)
  | 6 => ("TypeHouseModel$Breaker", "shrinks", "[I", true)
  | 7 => ("TypeHouseModel$Breaker", "befores", "[I", true)
  | 8 => ("TypeHouseModel$Breaker", "behinds", "[I", true)
  | 9 => ("TypeHouseModel$Breaker", "replaces", "[I", true)
  | 10 => ("TypeHouseModel$Breaker", "settings", "[I", true)
  | 11 => ("TypeHouseModel$Breaker", "wide", "I", false)
  | 12 => ("TypeHouseModel$Breaker", "aroundWidth", "[I", true)
  | 13 => ("TypeHouseModel$Breaker", "aroundStretch", "[I", true)
  | 14 => ("TypeHouseModel$Breaker", "aroundOrder", "[I", true)
  | 15 => ("TypeHouseModel$Breaker", "aroundShrink", "[I", true)
  | 16 => ("TypeHouseModel$Breaker", "pass", "I", false)
  | 17 => ("TypeHouseModel$Breaker", "last", "I", false)
  | 18 => ("TypeHouseModel$Breaker", "tolerance", "I", false)
  | 19 => ("TypeHouseModel$Breaker", "more", "I", false)
  | 20 => ("TypeHouseModel$Breaker", "nodes", "I", false)
  | 21 => ("TypeHouseModel$Breaker", "looks", "I", false)
  | 22 => ("TypeHouseModel$Breaker", "allLooks", "I", false)
  | 23 => ("TypeHouseModel$Breaker", "place", "[I", true)
  | 24 => ("TypeHouseModel$Breaker", "lines", "[I", true)
  | 25 => ("TypeHouseModel$Breaker", "fits", "[I", true)
  | 26 => ("TypeHouseModel$Breaker", "totals", "[J", true)
  | 27 => ("TypeHouseModel$Breaker", "former", "[I", true)
  | 28 => ("TypeHouseModel$Breaker", "dead", "[Z", true)
  | 29 => ("TypeHouseModel$Breaker", "first", "I", false)
  | 30 => ("TypeHouseModel$Breaker", "width", "I", false)
  | 31 => ("TypeHouseModel$Breaker", "stretch", "[I", true)
  | 32 => ("TypeHouseModel$Breaker", "shrink", "I", false)
  | 33 => ("TypeHouseModel$Breaker", "shortfall", "I", false)
  | 34 => ("TypeHouseModel$Breaker", "badness", "I", false)
  | 35 => ("TypeHouseModel$Breaker", "fit", "I", false)
  | 36 => ("TypeHouseModel$Breaker", "brokenPass", "I", false)
  | 37 => ("TypeHouseModel$Breaker", "brokenNodes", "I", false)
  | 38 => ("TypeHouseModel$Breaker", "brokenLines", "I", false)
  | 39 => ("TypeHouseModel$Breaker", "lineEnd", "[I", true)
  | 40 => ("TypeHouseModel$Breaker", "lineFirst", "[I", true)
  | 41 => ("TypeHouseModel$Breaker", "lineShort", "[I", true)
  | 42 => ("TypeHouseModel$Breaker", "lineBad", "[I", true)
  | 43 => ("TypeHouseModel$Breaker", "lineFit", "[I", true)
  | 44 => ("TypeHouseModel$Breaker", "lineTotal", "[J", true)
  | 45 => ("TypeHouseModel$Breaker", "widthBefore", "[I", true)
  | 46 => ("TypeHouseModel$Breaker", "stretchBefore", "[I", true)
  | _ => ("TypeHouseModel$Breaker", "shrinkBefore", "[I", true)
def tyX37 : Nat → FieldType := fun k => match k with
  | 0 => .int
  | 1 => .int
  | 2 => .array .int
  | 3 => .array .int
  | 4 => .array .int
  | 5 => .array .int
  | 6 => .array .int
  | 7 => .array .int
  | 8 => .array .int
  | 9 => .array .int
  | 10 => .array .int
  | 11 => .int
  | 12 => .array .int
  | 13 => .array .int
  | 14 => .array .int
  | 15 => .array .int
  | 16 => .int
  | 17 => .int
  | 18 => .int
  | 19 => .int
  | 20 => .int
  | 21 => .int
  | 22 => .int
  | 23 => .array .int
  | 24 => .array .int
  | 25 => .array .int
  | 26 => .array .long
  | 27 => .array .int
  | 28 => .array .boolean
  | 29 => .int
  | 30 => .int
  | 31 => .array .int
  | 32 => .int
  | 33 => .int
  | 34 => .int
  | 35 => .int
  | 36 => .int
  | 37 => .int
  | 38 => .int
  | 39 => .array .int
  | 40 => .array .int
  | 41 => .array .int
  | 42 => .array .int
  | 43 => .array .int
  | 44 => .array .long
  | 45 => .array .int
  | 46 => .array .int
  | _ => .array .int
abbrev wsX370 : List Cond := u_ws RX37 TX37 48
set_option maxRecDepth 100000 in
theorem nmX37 : ∀ a, a < 48 → ∀ b, b < 48 → a ≠ b → (TX37 a).2.1 ≠ (TX37 b).2.1 := by decide +kernel
set_option maxRecDepth 100000 in
theorem tyX37_ok : ∀ k, k < 48 → parseFieldDescriptor (TX37 k).2.2.1 = some (tyX37 k) := by decide +kernel
set_option maxRecDepth 100000 in
theorem in_X37 : ∀ w ∈ wsX370, w ∈ lw_all := lw_in wsX370 [4285, 4287, 4289, 4291, 4293, 4295, 4297, 4299, 4301, 4303, 4305, 4307, 4309, 4311, 4313, 4315, 4317, 4319, 4321, 4323, 4325, 4327, 4329, 4331, 4333, 4335, 4337, 4339, 4341, 4343, 4345, 4347, 4349, 4351, 4353, 4355, 4357, 4359, 4361, 4363, 4365, 4367, 4369, 4371, 4373, 4375, 4377, 4379] (by decide +kernel) (by decide +kernel)
def RX38 : String := "TypeHouseModel$Device"
def TX38 : u_T := fun k => match k with
  | 0 => ("TypeHouseModel$Device", "checks", "[I", true)
  | 1 => ("TypeHouseModel$Device", "sizes", "[I", true)
  | 2 => ("TypeHouseModel$Device", "designs", "[I", true)
  | 3 => ("TypeHouseModel$Device", "slotOf", "[I", true)
  | 4 => ("TypeHouseModel$Device", "counts", "[I", true)
  | 5 => ("TypeHouseModel$Device", "written", "I", false)
  | 6 => ("TypeHouseModel$Device", "out", "[B", true)
  | 7 => ("TypeHouseModel$Device", "pages", "I", false)
  | 8 => ("TypeHouseModel$Device", "lastPage", "I", false)
  | 9 => ("TypeHouseModel$Device", "greatestV", "I", false)
  | 10 => ("TypeHouseModel$Device", "greatestH", "I", false)
  | 11 => ("TypeHouseModel$Device", "toldCount", "I", false)
  | 12 => ("TypeHouseModel$Device", "toldFonts", "[I", true)
  | 13 => ("TypeHouseModel$Device", "marks", "I", false)
  | 14 => ("TypeHouseModel$Device", "fonts", "[I", true)
  | 15 => ("TypeHouseModel$Device", "codes", "[I", true)
  | 16 => ("TypeHouseModel$Device", "xs", "[I", true)
  | 17 => ("TypeHouseModel$Device", "ys", "[I", true)
  | 18 => ("TypeHouseModel$Device", "heights", "[I", true)
  | 19 => ("TypeHouseModel$Device", "wide", "[I", true)
  | 20 => ("TypeHouseModel$Device", "rights", "[I", true)
  | 21 => ("TypeHouseModel$Device", "downs", "[I", true)
  | _ => ("TypeHouseModel$Device", "six", "[I", true)
def tyX38 : Nat → FieldType := fun k => match k with
  | 0 => .array .int
  | 1 => .array .int
  | 2 => .array .int
  | 3 => .array .int
  | 4 => .array .int
  | 5 => .int
  | 6 => .array .byte
  | 7 => .int
  | 8 => .int
  | 9 => .int
  | 10 => .int
  | 11 => .int
  | 12 => .array .int
  | 13 => .int
  | 14 => .array .int
  | 15 => .array .int
  | 16 => .array .int
  | 17 => .array .int
  | 18 => .array .int
  | 19 => .array .int
  | 20 => .array .int
  | 21 => .array .int
  | _ => .array .int
abbrev wsX380 : List Cond := u_ws RX38 TX38 23
set_option maxRecDepth 100000 in
theorem nmX38 : ∀ a, a < 23 → ∀ b, b < 23 → a ≠ b → (TX38 a).2.1 ≠ (TX38 b).2.1 := by decide +kernel
set_option maxRecDepth 100000 in
theorem tyX38_ok : ∀ k, k < 23 → parseFieldDescriptor (TX38 k).2.2.1 = some (tyX38 k) := by decide +kernel
set_option maxRecDepth 100000 in
theorem in_X38 : ∀ w ∈ wsX380, w ∈ lw_all := lw_in wsX380 [4422, 4424, 4426, 4428, 4430, 4432, 4434, 4436, 4438, 4440, 4442, 4444, 4446, 4448, 4450, 4452, 4454, 4456, 4458, 4460, 4462, 4464, 4466] (by decide +kernel) (by decide +kernel)
def RJ8 : String := "java/lang/UnsupportedOperationException"
def TJ8 : u_T := fun k => match k with
  | 0 => ("java/lang/Throwable", "cause", "Ljava/lang/Throwable;", false)
  | 1 => ("java/lang/Throwable", "stackTrace", "[Ljava/lang/StackTraceElement;", false)
  | 2 => ("java/lang/Throwable", "suppressedExceptions", "Ljava/util/List;", false)
  | 3 => ("java/lang/Throwable", "detailMessage", "Ljava/lang/String;", false)
  | 4 => ("java/lang/Throwable", "backtrace", "Ljava/lang/Object;", false)
  | _ => ("java/lang/Throwable", "depth", "I", false)
def tyJ8 : Nat → FieldType := fun k => match k with
  | 0 => .object "java/lang/Throwable"
  | 1 => .array (.object "java/lang/StackTraceElement")
  | 2 => .object "java/util/List"
  | 3 => .object "java/lang/String"
  | 4 => .object "java/lang/Object"
  | _ => .int
abbrev wsJ80 : List Cond := u_ws RJ8 TJ8 6
set_option maxRecDepth 100000 in
theorem nmJ8 : ∀ a, a < 6 → ∀ b, b < 6 → a ≠ b → (TJ8 a).2.1 ≠ (TJ8 b).2.1 := by decide +kernel
set_option maxRecDepth 100000 in
theorem tyJ8_ok : ∀ k, k < 6 → parseFieldDescriptor (TJ8 k).2.2.1 = some (tyJ8 k) := by decide +kernel
set_option maxRecDepth 100000 in
theorem in_J8 : ∀ w ∈ wsJ80, w ∈ lw_all := lw_in wsJ80 [2106, 2108, 2110, 2112, 2114, 2156] (by decide +kernel) (by decide +kernel)
def RJ9 : String := "java/lang/IllegalArgumentException"
def TJ9 : u_T := fun k => match k with
  | 0 => ("java/lang/Throwable", "cause", "Ljava/lang/Throwable;", false)
  | 1 => ("java/lang/Throwable", "stackTrace", "[Ljava/lang/StackTraceElement;", false)
  | 2 => ("java/lang/Throwable", "suppressedExceptions", "Ljava/util/List;", false)
  | 3 => ("java/lang/Throwable", "detailMessage", "Ljava/lang/String;", false)
  | 4 => ("java/lang/Throwable", "backtrace", "Ljava/lang/Object;", false)
  | _ => ("java/lang/Throwable", "depth", "I", false)
def tyJ9 : Nat → FieldType := fun k => match k with
  | 0 => .object "java/lang/Throwable"
  | 1 => .array (.object "java/lang/StackTraceElement")
  | 2 => .object "java/util/List"
  | 3 => .object "java/lang/String"
  | 4 => .object "java/lang/Object"
  | _ => .int
abbrev wsJ90 : List Cond := u_ws RJ9 TJ9 6
set_option maxRecDepth 100000 in
theorem nmJ9 : ∀ a, a < 6 → ∀ b, b < 6 → a ≠ b → (TJ9 a).2.1 ≠ (TJ9 b).2.1 := by decide +kernel
set_option maxRecDepth 100000 in
theorem tyJ9_ok : ∀ k, k < 6 → parseFieldDescriptor (TJ9 k).2.2.1 = some (tyJ9 k) := by decide +kernel
set_option maxRecDepth 100000 in
theorem in_J9 : ∀ w ∈ wsJ90, w ∈ lw_all := lw_in wsJ90 [2177, 2178, 2179, 2180, 2181, 2186] (by decide +kernel) (by decide +kernel)
def RJ15 : String := "java/lang/IndexOutOfBoundsException"
def TJ15 : u_T := fun k => match k with
  | 0 => ("java/lang/Throwable", "cause", "Ljava/lang/Throwable;", false)
  | 1 => ("java/lang/Throwable", "stackTrace", "[Ljava/lang/StackTraceElement;", false)
  | 2 => ("java/lang/Throwable", "suppressedExceptions", "Ljava/util/List;", false)
  | 3 => ("java/lang/Throwable", "detailMessage", "Ljava/lang/String;", false)
  | 4 => ("java/lang/Throwable", "backtrace", "Ljava/lang/Object;", false)
  | _ => ("java/lang/Throwable", "depth", "I", false)
def tyJ15 : Nat → FieldType := fun k => match k with
  | 0 => .object "java/lang/Throwable"
  | 1 => .array (.object "java/lang/StackTraceElement")
  | 2 => .object "java/util/List"
  | 3 => .object "java/lang/String"
  | 4 => .object "java/lang/Object"
  | _ => .int
abbrev wsJ150 : List Cond := u_ws RJ15 TJ15 6
set_option maxRecDepth 100000 in
theorem nmJ15 : ∀ a, a < 6 → ∀ b, b < 6 → a ≠ b → (TJ15 a).2.1 ≠ (TJ15 b).2.1 := by decide +kernel
set_option maxRecDepth 100000 in
theorem tyJ15_ok : ∀ k, k < 6 → parseFieldDescriptor (TJ15 k).2.2.1 = some (tyJ15 k) := by decide +kernel
set_option maxRecDepth 100000 in
theorem in_J15 : ∀ w ∈ wsJ150, w ∈ lw_all := lw_in wsJ150 [4084, 4085, 4086, 4087, 4088, 4093] (by decide +kernel) (by decide +kernel)
def RX39 : String := "TypeHouse$Box"
def TX39 : u_T := fun k => match k with
  | 0 => ("TypeHouse$Box", "from", "I", false)
  | 1 => ("TypeHouse$Box", "to", "I", false)
  | 2 => ("TypeHouse$Box", "below", "Z", false)
  | 3 => ("TypeHouse$Box", "width", "I", false)
  | 4 => ("TypeHouse$Box", "height", "I", false)
  | 5 => ("TypeHouse$Box", "depth", "I", false)
  | 6 => ("TypeHouse$Box", "excess", "I", false)
  | 7 => ("TypeHouse$Box", "order", "I", false)
  | 8 => ("TypeHouse$Box", "total", "I", false)
  | 9 => ("TypeHouse$Box", "badness", "I", false)
  | 10 => ("TypeHouse$Box", "overfull", "I", false)
  | 11 => ("TypeHouse$Box", "deep", "I", false)
  | _ => ("TypeHouse$Box", "all", "I", false)
def tyX39 : Nat → FieldType := fun k => match k with
  | 0 => .int
  | 1 => .int
  | 2 => .boolean
  | 3 => .int
  | 4 => .int
  | 5 => .int
  | 6 => .int
  | 7 => .int
  | 8 => .int
  | 9 => .int
  | 10 => .int
  | 11 => .int
  | _ => .int
abbrev wsX390 : List Cond := u_ws RX39 TX39 13
set_option maxRecDepth 100000 in
theorem nmX39 : ∀ a, a < 13 → ∀ b, b < 13 → a ≠ b → (TX39 a).2.1 ≠ (TX39 b).2.1 := by decide +kernel
set_option maxRecDepth 100000 in
theorem tyX39_ok : ∀ k, k < 13 → parseFieldDescriptor (TX39 k).2.2.1 = some (tyX39 k) := by decide +kernel
set_option maxRecDepth 100000 in
theorem in_X39 : ∀ w ∈ wsX390, w ∈ lw_all := lw_in wsX390 [3543, 3545, 3547, 3549, 3551, 3553, 3555, 3557, 3559, 3561, 3563, 3565, 3567] (by decide +kernel) (by decide +kernel)
def RX40 : String := "TypeHouseModel$Metrics"
def TX40 : u_T := fun k => match k with
  | 0 => ("TypeHouseModel$Metrics", "font", "[B", true)
  | 1 => ("TypeHouseModel$Metrics", "kinds", "[I", true)
  | 2 => ("TypeHouseModel$Metrics", "wide", "[I", true)
  | _ => ("TypeHouseModel$Metrics", "count", "I", false)
def tyX40 : Nat → FieldType := fun k => match k with
  | 0 => .array .byte
  | 1 => .array .int
  | 2 => .array .int
  | _ => .int
abbrev wsX400 : List Cond := u_ws RX40 TX40 4
set_option maxRecDepth 100000 in
theorem nmX40 : ∀ a, a < 4 → ∀ b, b < 4 → a ≠ b → (TX40 a).2.1 ≠ (TX40 b).2.1 := by decide +kernel
set_option maxRecDepth 100000 in
theorem tyX40_ok : ∀ k, k < 4 → parseFieldDescriptor (TX40 k).2.2.1 = some (tyX40 k) := by decide +kernel
set_option maxRecDepth 100000 in
theorem in_X40 : ∀ w ∈ wsX400, w ∈ lw_all := lw_in wsX400 [4983, 4985, 4987, 4989] (by decide +kernel) (by decide +kernel)
def e_cl : List vw_C := [(RX1, TX1, 5), (RX2, TX2, 2), (RX3, TX3, 37), (RX4, TX4, 1), (RX5, TX5, 8), (RX6, TX6, 11), (RX7, TX7, 4), (RX8, TX8, 30), (RX9, TX9, 12), (RX10, TX10, 9), (RX11, TX11, 10), (RX12, TX12, 8), (RX13, TX13, 4), (RX14, TX14, 8), (RX15, TX15, 25), (RX16, TX16, 12), (RX17, TX17, 3), (RX18, TX18, 6), (RX19, TX19, 10), (RX20, TX20, 9), (RX21, TX21, 10), (RX22, TX22, 6), (RX23, TX23, 12), (RX24, TX24, 16), (RX25, TX25, 8), (RX26, TX26, 2), (RX27, TX27, 7), (RX28, TX28, 11), (RX29, TX29, 4), (RX30, TX30, 12), (RX31, TX31, 18), (RX32, TX32, 2), (RX33, TX33, 9), (RX34, TX34, 2), (RX35, TX35, 129), (RX36, TX36, 28), (RX37, TX37, 48), (RX38, TX38, 23), (RJ8, TJ8, 6), (RJ9, TJ9, 6), (RJ15, TJ15, 6), (RX39, TX39, 13), (RX40, TX40, 4)]
theorem e_clf : ∀ (c : Nat) (q : vw_C), e_cl[c]? = some q → (∀ x ∈ u_ws q.1 q.2.1 q.2.2, x ∈ lw_all) ∧ (∀ a, a < q.2.2 → ∀ b, b < q.2.2 → a ≠ b → (q.2.1 a).2.1 ≠ (q.2.1 b).2.1) ∧ ∃ ty0 : Nat → FieldType, ∀ k, k < q.2.2 → parseFieldDescriptor (q.2.1 k).2.2.1 = some (ty0 k) := by
  intro c q h
  match c, h with
  | 0, h => cases h; exact ⟨in_X1, nmX1, tyX1, tyX1_ok⟩
  | 1, h => cases h; exact ⟨in_X2, nmX2, tyX2, tyX2_ok⟩
  | 2, h => cases h; exact ⟨in_X3, nmX3, tyX3, tyX3_ok⟩
  | 3, h => cases h; exact ⟨in_X4, nmX4, tyX4, tyX4_ok⟩
  | 4, h => cases h; exact ⟨in_X5, nmX5, tyX5, tyX5_ok⟩
  | 5, h => cases h; exact ⟨in_X6, nmX6, tyX6, tyX6_ok⟩
  | 6, h => cases h; exact ⟨in_X7, nmX7, tyX7, tyX7_ok⟩
  | 7, h => cases h; exact ⟨in_X8, nmX8, tyX8, tyX8_ok⟩
  | 8, h => cases h; exact ⟨in_X9, nmX9, tyX9, tyX9_ok⟩
  | 9, h => cases h; exact ⟨in_X10, nmX10, tyX10, tyX10_ok⟩
  | 10, h => cases h; exact ⟨in_X11, nmX11, tyX11, tyX11_ok⟩
  | 11, h => cases h; exact ⟨in_X12, nmX12, tyX12, tyX12_ok⟩
  | 12, h => cases h; exact ⟨in_X13, nmX13, tyX13, tyX13_ok⟩
  | 13, h => cases h; exact ⟨in_X14, nmX14, tyX14, tyX14_ok⟩
  | 14, h => cases h; exact ⟨in_X15, nmX15, tyX15, tyX15_ok⟩
  | 15, h => cases h; exact ⟨in_X16, nmX16, tyX16, tyX16_ok⟩
  | 16, h => cases h; exact ⟨in_X17, nmX17, tyX17, tyX17_ok⟩
  | 17, h => cases h; exact ⟨in_X18, nmX18, tyX18, tyX18_ok⟩
  | 18, h => cases h; exact ⟨in_X19, nmX19, tyX19, tyX19_ok⟩
  | 19, h => cases h; exact ⟨in_X20, nmX20, tyX20, tyX20_ok⟩
  | 20, h => cases h; exact ⟨in_X21, nmX21, tyX21, tyX21_ok⟩
  | 21, h => cases h; exact ⟨in_X22, nmX22, tyX22, tyX22_ok⟩
  | 22, h => cases h; exact ⟨in_X23, nmX23, tyX23, tyX23_ok⟩
  | 23, h => cases h; exact ⟨in_X24, nmX24, tyX24, tyX24_ok⟩
  | 24, h => cases h; exact ⟨in_X25, nmX25, tyX25, tyX25_ok⟩
  | 25, h => cases h; exact ⟨in_X26, nmX26, tyX26, tyX26_ok⟩
  | 26, h => cases h; exact ⟨in_X27, nmX27, tyX27, tyX27_ok⟩
  | 27, h => cases h; exact ⟨in_X28, nmX28, tyX28, tyX28_ok⟩
  | 28, h => cases h; exact ⟨in_X29, nmX29, tyX29, tyX29_ok⟩
  | 29, h => cases h; exact ⟨in_X30, nmX30, tyX30, tyX30_ok⟩
  | 30, h => cases h; exact ⟨in_X31, nmX31, tyX31, tyX31_ok⟩
  | 31, h => cases h; exact ⟨in_X32, nmX32, tyX32, tyX32_ok⟩
  | 32, h => cases h; exact ⟨in_X33, nmX33, tyX33, tyX33_ok⟩
  | 33, h => cases h; exact ⟨in_X34, nmX34, tyX34, tyX34_ok⟩
  | 34, h => cases h; exact ⟨in_X35, nmX35, tyX35, tyX35_ok⟩
  | 35, h => cases h; exact ⟨in_X36, nmX36, tyX36, tyX36_ok⟩
  | 36, h => cases h; exact ⟨in_X37, nmX37, tyX37, tyX37_ok⟩
  | 37, h => cases h; exact ⟨in_X38, nmX38, tyX38, tyX38_ok⟩
  | 38, h => cases h; exact ⟨in_J8, nmJ8, tyJ8, tyJ8_ok⟩
  | 39, h => cases h; exact ⟨in_J9, nmJ9, tyJ9, tyJ9_ok⟩
  | 40, h => cases h; exact ⟨in_J15, nmJ15, tyJ15, tyJ15_ok⟩
  | 41, h => cases h; exact ⟨in_X39, nmX39, tyX39, tyX39_ok⟩
  | 42, h => cases h; exact ⟨in_X40, nmX40, tyX40, tyX40_ok⟩
  | c + 43, h => simp [e_cl] at h
