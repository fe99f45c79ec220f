set_option maxRecDepth 100000
theorem nx_X9 : ∀ a, a < 3 → ∀ b, b < 3 → a ≠ b → (TX9 a).2.1 ≠ (TX9 b).2.1 ∨ (TX9 a).1 ≠ (TX9 b).1 := by decide +kernel
theorem nx_X15 : ∀ a, a < 3 → ∀ b, b < 3 → a ≠ b → (TX15 a).2.1 ≠ (TX15 b).2.1 ∨ (TX15 a).1 ≠ (TX15 b).1 := by decide +kernel
def vwCl : List vw_C := [(RX1, TX1, 7), (RX2, TX2, 8), (RX4, TX4, 7), (RX5, TX5, 7), (RX6, TX6, 3), (RX7, TX7, 2), (RX9, TX9, 3), (RX15, TX15, 3), (RX10, TX10, 7), (RX14, TX14, 7), (RX11, TX11, 9), (RX12, TX12, 2), (RX13, TX13, 2), (RX16, TX16, 2), (RX17, TX17, 7), (RX18, TX18, 3), (RX19, TX19, 3), (RX20, TX20, 7), (RX3, TX3, 27), (RJ2, TJ2, 3), (RJ4, TJ4, 8), (RJ5, TJ5, 3), (RJ7, TJ7, 4), (RJ8, TJ8, 4), (RJ14, TJ14, 4), (RJ19, TJ19, 1), (RJ24, TJ24, 4), ("java/lang/UnsupportedOperationException", TX9, 0)]
/-- the fields of a class: what they hold (0 an int, 1 a reference, 2 a float), and their numbers -/
def cF : Nat → List (Nat × Nat)
  | 0 => [(1, 1), (1, 2), (1, 3), (1, 4), (1, 5), (1, 6), (1, 7)]
  | 1 => [(1, 8), (1, 9), (1, 10), (1, 11), (1, 12), (0, 13), (0, 14), (0, 15)]
  | 2 => [(0, 16), (0, 17), (0, 18), (0, 19), (1, 20), (1, 21), (1, 22)]
  | 3 => [(0, 23), (0, 24), (0, 25), (0, 26), (1, 27), (0, 28), (0, 29)]
  | 4 => [(0, 30), (0, 31), (0, 32)]
  | 5 => [(0, 33), (0, 34)]
  | 6 => [(1, 35), (0, 36), (1, 126)]
  | 7 => [(1, 35), (0, 37), (1, 127)]
  | 8 => [(1, 38), (1, 39), (1, 40), (1, 41), (1, 42), (0, 43), (0, 44)]
  | 9 => [(1, 38), (1, 39), (1, 40), (1, 41), (1, 42), (0, 44), (0, 43)]
  | 10 => [(1, 45), (0, 46), (1, 47), (0, 48), (0, 49), (1, 50), (0, 51), (0, 52), (1, 53)]
  | 11 => [(0, 54), (1, 55)]
  | 12 => [(0, 56), (1, 57)]
  | 13 => [(1, 58), (0, 59)]
  | 14 => [(1, 38), (1, 39), (1, 40), (1, 41), (1, 42), (0, 43), (0, 60)]
  | 15 => [(0, 61), (1, 62), (1, 63)]
  | 16 => [(1, 64), (0, 65), (0, 66)]
  | 17 => [(1, 38), (1, 39), (1, 40), (1, 41), (1, 42), (0, 43), (0, 67)]
  | 18 => [(1, 68), (1, 69), (1, 70), (0, 71), (0, 72), (1, 73), (0, 74), (1, 75), (0, 76), (0, 77), (1, 78), (1, 79), (1, 80), (0, 81), (0, 82), (1, 83), (1, 84), (1, 85), (1, 86), (1, 87), (1, 88), (0, 89), (0, 90), (0, 91), (0, 92), (1, 93), (0, 94)]
  | 19 => [(0, 95), (1, 96), (0, 97)]
  | 20 => [(1, 98), (1, 99), (1, 100), (1, 101), (0, 102), (0, 103), (0, 104), (2, 105)]
  | 21 => [(1, 106), (0, 107), (0, 108)]
  | 22 => [(1, 109), (0, 110), (0, 111), (0, 112)]
  | 23 => [(1, 113), (0, 114), (0, 115), (0, 116)]
  | 24 => [(0, 117), (0, 118), (0, 119), (1, 120)]
  | 25 => [(0, 121)]
  | 26 => [(0, 122), (1, 123), (1, 124), (1, 125)]
  | _ => []
-- field 1: CableTrayPlanner.plan LCableTrayPlanner$Plan;
-- field 2: CableTrayPlanner.undoSteps Ljava/util/ArrayDeque;
-- field 3: CableTrayPlanner.saved LCableTrayPlanner$Plan;
-- field 4: CableTrayPlanner.input Ljava/lang/StringBuilder;
-- field 5: CableTrayPlanner.lastError LCableTrayPlanner$SyntaxException;
-- field 6: CableTrayPlanner.lastRefused LCableTrayPlanner$ItemException;
-- field 7: CableTrayPlanner.lastChain [I
-- field 8: CableTrayPlanner$Plan.types Ljava/util/ArrayList;
-- field 9: CableTrayPlanner$Plan.names Ljava/util/HashMap;
-- field 10: CableTrayPlanner$Plan.trays Ljava/util/ArrayList;
-- field 11: CableTrayPlanner$Plan.cables Ljava/util/ArrayList;
-- field 12: CableTrayPlanner$Plan.drums Ljava/util/ArrayList;
-- field 13: CableTrayPlanner$Plan.spare I
-- field 14: CableTrayPlanner$Plan.tail I
-- field 15: CableTrayPlanner$Plan.waste I
-- field 16: CableTrayPlanner$Tray.from I
-- field 17: CableTrayPlanner$Tray.to I
-- field 18: CableTrayPlanner$Tray.length I
-- field 19: CableTrayPlanner$Tray.area I
-- field 20: CableTrayPlanner$Tray.classes [I
-- field 21: CableTrayPlanner$Tray.filled [I
-- field 22: CableTrayPlanner$Tray.counts [I
-- field 23: CableTrayPlanner$Cable.type I
-- field 24: CableTrayPlanner$Cable.from I
-- field 25: CableTrayPlanner$Cable.to I
-- field 26: CableTrayPlanner$Cable.state I
-- field 27: CableTrayPlanner$Cable.route Ljava/util/ArrayList;
-- field 28: CableTrayPlanner$Cable.length I
-- field 29: CableTrayPlanner$Cable.drum I
-- field 30: CableTrayPlanner$Drum.type I
-- field 31: CableTrayPlanner$Drum.first I
-- field 32: CableTrayPlanner$Drum.rest I
-- field 33: CableTrayPlanner$Step.tray I
-- field 34: CableTrayPlanner$Step.compartment I
-- field 35: CableTrayPlanner$Deed.this$0 LCableTrayPlanner;
-- field 36: CableTrayPlanner$1.val$cable I
-- field 37: CableTrayPlanner$2.val$cable I
-- field 38: java/lang/Throwable.cause Ljava/lang/Throwable;
-- field 39: java/lang/Throwable.stackTrace [Ljava/lang/StackTraceElement;
-- field 40: java/lang/Throwable.suppressedExceptions Ljava/util/List;
-- field 41: java/lang/Throwable.detailMessage Ljava/lang/String;
-- field 42: java/lang/Throwable.backtrace Ljava/lang/Object;
-- field 43: java/lang/Throwable.depth I
-- field 44: CableTrayPlanner$Refusal.number I
-- field 45: CableTrayPlanner$Plan$Search.type LCableTrayPlanner$Type;
-- field 46: CableTrayPlanner$Plan$Search.to I
-- field 47: CableTrayPlanner$Plan$Search.row [I
-- field 48: CableTrayPlanner$Plan$Search.count I
-- field 49: CableTrayPlanner$Plan$Search.visited I
-- field 50: CableTrayPlanner$Plan$Search.best [I
-- field 51: CableTrayPlanner$Plan$Search.bestCount I
-- field 52: CableTrayPlanner$Plan$Search.bestLength I
-- field 53: CableTrayPlanner$Plan$Search.this$0 LCableTrayPlanner$Plan;
-- field 54: CableTrayPlanner$Plan$1.val$place I
-- field 55: CableTrayPlanner$Plan$1.this$0 LCableTrayPlanner$Plan;
-- field 56: CableTrayPlanner$Plan$1$1.next I
-- field 57: CableTrayPlanner$Plan$1$1.this$1 LCableTrayPlanner$Plan$1;
-- field 58: CableTrayPlanner$Parser.text Ljava/lang/CharSequence;
-- field 59: CableTrayPlanner$Parser.position I
-- field 60: CableTrayPlanner$SyntaxException.position I
-- field 61: CableTrayPlanner$Item.sign C
-- field 62: CableTrayPlanner$Item.name Ljava/lang/String;
-- field 63: CableTrayPlanner$Item.numbers [I
-- field 64: CableTrayPlanner$Type.name Ljava/lang/String;
-- field 65: CableTrayPlanner$Type.level I
-- field 66: CableTrayPlanner$Type.area I
-- field 67: CableTrayPlanner$ItemException.number I
-- field 68: CableTrayPlannerModel.g [I
-- field 69: CableTrayPlannerModel.kept [I
-- field 70: CableTrayPlannerModel.before [I
-- field 71: CableTrayPlannerModel.hasKept Z
-- field 72: CableTrayPlannerModel.isTextNow Z
-- field 73: CableTrayPlannerModel.past [I
-- field 74: CableTrayPlannerModel.pasts I
-- field 75: CableTrayPlannerModel.chain [I
-- field 76: CableTrayPlannerModel.chainLong I
-- field 77: CableTrayPlannerModel.thrown I
-- field 78: CableTrayPlannerModel.open [Z
-- field 79: CableTrayPlannerModel.row [I
-- field 80: CableTrayPlannerModel.best [I
-- field 81: CableTrayPlannerModel.bestLong I
-- field 82: CableTrayPlannerModel.bestSum I
-- field 83: CableTrayPlannerModel.places [I
-- field 84: CableTrayPlannerModel.lengths [I
-- field 85: CableTrayPlannerModel.rests [I
-- field 86: CableTrayPlannerModel.drumsOf [I
-- field 87: CableTrayPlannerModel.usedOf [I
-- field 88: CableTrayPlannerModel.buffer [I
-- field 89: CableTrayPlannerModel.length I
-- field 90: CableTrayPlannerModel.spot I
-- field 91: CableTrayPlannerModel.wrong I
-- field 92: CableTrayPlannerModel.refusedAt I
-- field 93: CableTrayPlannerModel.told [I
-- field 94: CableTrayPlannerModel.tolds I
-- field 95: java/util/AbstractList.modCount I
-- field 96: java/util/ArrayList.elementData [Ljava/lang/Object;
-- field 97: java/util/ArrayList.size I
-- field 98: java/util/AbstractMap.keySet Ljava/util/Set;
-- field 99: java/util/AbstractMap.values Ljava/util/Collection;
-- field 100: java/util/HashMap.table [Ljava/util/HashMap$Node;
-- field 101: java/util/HashMap.entrySet Ljava/util/Set;
-- field 102: java/util/HashMap.size I
-- field 103: java/util/HashMap.modCount I
-- field 104: java/util/HashMap.threshold I
-- field 105: java/util/HashMap.loadFactor F
-- field 106: java/util/ArrayDeque.elements [Ljava/lang/Object;
-- field 107: java/util/ArrayDeque.head I
-- field 108: java/util/ArrayDeque.tail I
-- field 109: java/lang/AbstractStringBuilder.value [B
-- field 110: java/lang/AbstractStringBuilder.coder B
-- field 111: java/lang/AbstractStringBuilder.maybeLatin1 Z
-- field 112: java/lang/AbstractStringBuilder.count I
-- field 113: java/lang/String.value [B
-- field 114: java/lang/String.coder B
-- field 115: java/lang/String.hash I
-- field 116: java/lang/String.hashIsZero Z
-- field 117: java/util/ArrayList$Itr.cursor I
-- field 118: java/util/ArrayList$Itr.lastRet I
-- field 119: java/util/ArrayList$Itr.expectedModCount I
-- field 120: java/util/ArrayList$Itr.this$0 Ljava/util/ArrayList;
-- field 121: java/lang/Integer.value I
-- field 122: java/util/HashMap$Node.hash I
-- field 123: java/util/HashMap$Node.key Ljava/lang/Object;
-- field 124: java/util/HashMap$Node.value Ljava/lang/Object;
-- field 125: java/util/HashMap$Node.next Ljava/util/HashMap$Node;
