section
/-! printed by gen/gtab.py: the classes of the world, their fields, the layout of what the two constructors make -/
def q_fl : List (String × List (String × String × String × Bool)) := [
  ("DrawingHouse", [("DrawingHouse", "tape", "[B", true), ("DrawingHouse", "taped", "I", false), ("DrawingHouse", "places", "[LDrawingHouse$Place;", true), ("DrawingHouse", "reader", "LDrawingHouse$GraphReader;", true), ("DrawingHouse", "style", "LDrawingHouse$Style;", true), ("DrawingHouse", "hasRead", "Z", false), ("DrawingHouse", "readsStyle", "Z", false), ("DrawingHouse", "shape", "LDrawingHouse$Shape;", true), ("DrawingHouse", "shaped", "I", false), ("DrawingHouse", "likeness", "LDrawingHouse$Likeness;", true), ("DrawingHouse", "embedding", "LDrawingHouse$Embedding;", true), ("DrawingHouse", "web", "LDrawingHouse$Web;", true), ("DrawingHouse", "webbed", "I", false), ("DrawingHouse", "isPlanar", "Z", false), ("DrawingHouse", "part", "LDrawingHouse$Graph;", true), ("DrawingHouse", "partShape", "LDrawingHouse$Shape;", true), ("DrawingHouse", "barred", "[I", true), ("DrawingHouse", "barredMany", "I", false), ("DrawingHouse", "barredKind", "I", false), ("DrawingHouse", "spare", "LDrawingHouse$Drawing;", true), ("DrawingHouse", "layers", "LDrawingHouse$Layers;", true), ("DrawingHouse", "grid", "LDrawingHouse$Grid;", true), ("DrawingHouse", "bars", "LDrawingHouse$Bars;", true), ("DrawingHouse", "plain", "LDrawingHouse$Plain;", true), ("DrawingHouse", "routes", "LDrawingHouse$Routes;", true), ("DrawingHouse", "judge", "LDrawingHouse$Judge;", true), ("DrawingHouse", "turned", "[Z", true), ("DrawingHouse", "written", "[B", true), ("DrawingHouse", "writtenSize", "I", false), ("DrawingHouse", "size", "I", false), ("DrawingHouse", "draft", "[B", true), ("DrawingHouse", "plane", "[I", true), ("DrawingHouse", "wide", "I", false), ("DrawingHouse", "high", "I", false), ("DrawingHouse", "labelX", "[I", true), ("DrawingHouse", "labelY", "[I", true), ("DrawingHouse", "labelled", "[Z", true)]),
  ("DrawingHouse$Place", [("DrawingHouse$Place", "states", "[LDrawingHouse$Graph;", true), ("DrawingHouse$Place", "now", "I", false), ("DrawingHouse$Place", "last", "I", false), ("DrawingHouse$Place", "drawing", "LDrawingHouse$Drawing;", true), ("DrawingHouse$Place", "nodes", "[I", true), ("DrawingHouse$Place", "edges", "[I", true)]),
  ("DrawingHouse$Drawing", [("DrawingHouse$Drawing", "isThere", "Z", false), ("DrawingHouse$Drawing", "way", "I", false), ("DrawingHouse$Drawing", "crossings", "I", false), ("DrawingHouse$Drawing", "total", "I", false), ("DrawingHouse$Drawing", "band", "I", false), ("DrawingHouse$Drawing", "x", "[I", true), ("DrawingHouse$Drawing", "y", "[I", true), ("DrawingHouse$Drawing", "bends", "[I", true), ("DrawingHouse$Drawing", "bx", "[I", true), ("DrawingHouse$Drawing", "by", "[I", true), ("DrawingHouse$Drawing", "layer", "[I", true), ("DrawingHouse$Drawing", "number", "[I", true), ("DrawingHouse$Drawing", "area", "[I", true), ("DrawingHouse$Drawing", "groupArea", "[I", true), ("DrawingHouse$Drawing", "turned", "[Z", true)]),
  ("DrawingHouse$Graph", [("DrawingHouse$Graph", "nodes", "I", false), ("DrawingHouse$Graph", "edges", "I", false), ("DrawingHouse$Graph", "groups", "I", false), ("DrawingHouse$Graph", "names", "[B", true), ("DrawingHouse$Graph", "groupNames", "[B", true), ("DrawingHouse$Graph", "nameSize", "[I", true), ("DrawingHouse$Graph", "size", "[I", true), ("DrawingHouse$Graph", "group", "[I", true), ("DrawingHouse$Graph", "tail", "[I", true), ("DrawingHouse$Graph", "head", "[I", true), ("DrawingHouse$Graph", "weight", "[I", true), ("DrawingHouse$Graph", "oneWay", "[Z", true), ("DrawingHouse$Graph", "around", "[I", true), ("DrawingHouse$Graph", "groupNameSize", "[I", true)]),
  ("DrawingHouse$GraphReader", [("DrawingHouse$GraphReader", "graph", "LDrawingHouse$Graph;", true), ("DrawingHouse$Reader", "text", "[B", true), ("DrawingHouse$Reader", "wrong", "LDrawingHouse$Wrong;", true), ("DrawingHouse$Reader", "length", "I", false), ("DrawingHouse$Reader", "at", "I", false), ("DrawingHouse$Reader", "token", "I", false), ("DrawingHouse$Reader", "place", "I", false), ("DrawingHouse$Reader", "value", "I", false), ("DrawingHouse$Reader", "fault", "I", false), ("DrawingHouse$Reader", "faultPlace", "I", false)]),
  ("DrawingHouse$Wrong", [("java/lang/Throwable", "cause", "Ljava/lang/Throwable;", false), ("java/lang/Throwable", "stackTrace", "[Ljava/lang/StackTraceElement;", false), ("java/lang/Throwable", "suppressedExceptions", "Ljava/util/List;", false), ("java/lang/Throwable", "detailMessage", "Ljava/lang/String;", false), ("java/lang/Throwable", "backtrace", "Ljava/lang/Object;", false), ("java/lang/Throwable", "depth", "I", false)]),
  ("DrawingHouse$Style", [("DrawingHouse$Style", "code", "[I", true), ("DrawingHouse$Style", "value", "[I", true), ("DrawingHouse$Style", "size", "I", false), ("DrawingHouse$Style", "rules", "I", false), ("DrawingHouse$Style", "open", "I", false), ("DrawingHouse$Style", "ofNode", "Z", false), ("DrawingHouse$Style", "nodeWords", "[Ljava/lang/String;", true), ("DrawingHouse$Style", "edgeWords", "[Ljava/lang/String;", true), ("DrawingHouse$Style", "set", "[Ljava/lang/String;", true), ("DrawingHouse$Style", "stack", "[J", true), ("DrawingHouse$Reader", "text", "[B", true), ("DrawingHouse$Reader", "wrong", "LDrawingHouse$Wrong;", true), ("DrawingHouse$Reader", "length", "I", false), ("DrawingHouse$Reader", "at", "I", false), ("DrawingHouse$Reader", "token", "I", false), ("DrawingHouse$Reader", "place", "I", false), ("DrawingHouse$Reader", "value", "I", false), ("DrawingHouse$Reader", "fault", "I", false), ("DrawingHouse$Reader", "faultPlace", "I", false)]),
  ("DrawingHouse$Shape", [("DrawingHouse$Shape", "near", "[I", true), ("DrawingHouse$Shape", "part", "[I", true), ("DrawingHouse$Shape", "strong", "[I", true), ("DrawingHouse$Shape", "core", "[I", true), ("DrawingHouse$Shape", "block", "[I", true), ("DrawingHouse$Shape", "to", "[I", true), ("DrawingHouse$Shape", "parts", "I", false), ("DrawingHouse$Shape", "blocks", "I", false), ("DrawingHouse$Shape", "strongs", "I", false), ("DrawingHouse$Shape", "met", "[I", true), ("DrawingHouse$Shape", "low", "[I", true), ("DrawingHouse$Shape", "stack", "[I", true), ("DrawingHouse$Shape", "time", "I", false), ("DrawingHouse$Shape", "open", "I", false), ("DrawingHouse$Shape", "left", "J", false), ("DrawingHouse$Shape", "graph", "LDrawingHouse$Graph;", false)]),
  ("DrawingHouse$Likeness", [("DrawingHouse$Likeness", "map", "[I", true), ("DrawingHouse$Likeness", "kept", "[I", true), ("DrawingHouse$Likeness", "steps", "I", false), ("DrawingHouse$Likeness", "size", "I", false), ("DrawingHouse$Likeness", "is", "Z", false), ("DrawingHouse$Likeness", "here", "[I", true), ("DrawingHouse$Likeness", "there", "[I", true), ("DrawingHouse$Likeness", "many", "[I", true), ("DrawingHouse$Likeness", "manyThere", "[I", true)]),
  ("DrawingHouse$Embedding", [("DrawingHouse$Embedding", "tail", "[I", true), ("DrawingHouse$Embedding", "head", "[I", true), ("DrawingHouse$Embedding", "nodes", "I", false), ("DrawingHouse$Embedding", "edges", "I", false), ("DrawingHouse$Embedding", "list", "[I", true), ("DrawingHouse$Embedding", "many", "I", false), ("DrawingHouse$Embedding", "left", "[Z", true), ("DrawingHouse$Embedding", "drawn", "I", false), ("DrawingHouse$Embedding", "faces", "I", false), ("DrawingHouse$Embedding", "face", "[I", true), ("DrawingHouse$Embedding", "faceSize", "[I", true), ("DrawingHouse$Embedding", "faceSet", "[I", true), ("DrawingHouse$Embedding", "piece", "[I", true), ("DrawingHouse$Embedding", "ends", "[I", true), ("DrawingHouse$Embedding", "pieces", "I", false), ("DrawingHouse$Embedding", "way", "[I", true), ("DrawingHouse$Embedding", "far", "[I", true), ("DrawingHouse$Embedding", "waySize", "I", false), ("DrawingHouse$Embedding", "turn", "[I", true), ("DrawingHouse$Embedding", "spare", "[I", true)]),
  ("DrawingHouse$Web", [("DrawingHouse$Web", "nodes", "I", false), ("DrawingHouse$Web", "edges", "I", false), ("DrawingHouse$Web", "faces", "I", false), ("DrawingHouse$Web", "tail", "[I", true), ("DrawingHouse$Web", "head", "[I", true), ("DrawingHouse$Web", "degree", "[I", true), ("DrawingHouse$Web", "around", "[I", true), ("DrawingHouse$Web", "row", "[I", true), ("DrawingHouse$Web", "rowSize", "[I", true), ("DrawingHouse$Web", "fromTail", "[I", true), ("DrawingHouse$Web", "fromHead", "[I", true)]),
  ("DrawingHouse$Layers", [("DrawingHouse$Layers", "places", "LDrawingHouse$Places;", true), ("DrawingHouse$Layers", "graph", "LDrawingHouse$Graph;", false), ("DrawingHouse$Layers", "out", "LDrawingHouse$Drawing;", false), ("DrawingHouse$Layers", "turned", "[Z", true), ("DrawingHouse$Layers", "order", "[I", true), ("DrawingHouse$Layers", "layer", "[I", true), ("DrawingHouse$Layers", "edge", "[I", true), ("DrawingHouse$Layers", "first", "[I", true), ("DrawingHouse$Layers", "many", "[I", true), ("DrawingHouse$Layers", "row", "[I", true), ("DrawingHouse$Layers", "best", "[I", true), ("DrawingHouse$Layers", "place", "[I", true), ("DrawingHouse$Layers", "items", "I", false), ("DrawingHouse$Layers", "layers", "I", false), ("DrawingHouse$Layers", "up", "[I", true), ("DrawingHouse$Layers", "down", "[I", true), ("DrawingHouse$Layers", "heavy", "[I", true), ("DrawingHouse$Layers", "pieces", "I", false), ("DrawingHouse$Layers", "least", "[I", true), ("DrawingHouse$Layers", "sum", "[I", true), ("DrawingHouse$Layers", "parts", "[I", true), ("DrawingHouse$Layers", "kept", "[I", true), ("DrawingHouse$Layers", "orders", "[I", true), ("DrawingHouse$Layers", "cost", "[I", true), ("DrawingHouse$Layers", "costNext", "[I", true), ("DrawingHouse$Layers", "then", "[I", true), ("DrawingHouse$Layers", "pairs", "[I", true)]),
  ("DrawingHouse$Places", [("DrawingHouse$Places", "things", "I", false), ("DrawingHouse$Places", "pairs", "I", false), ("DrawingHouse$Places", "a", "[I", true), ("DrawingHouse$Places", "b", "[I", true), ("DrawingHouse$Places", "d", "[I", true), ("DrawingHouse$Places", "flow", "[I", true), ("DrawingHouse$Places", "y", "[I", true), ("DrawingHouse$Places", "by", "[I", true)]),
  ("DrawingHouse$Grid", [("DrawingHouse$Grid", "place", "[I", true), ("DrawingHouse$Grid", "order", "[I", true), ("DrawingHouse$Grid", "line", "[I", true), ("DrawingHouse$Grid", "lineNow", "[I", true), ("DrawingHouse$Grid", "x", "[I", true), ("DrawingHouse$Grid", "y", "[I", true), ("DrawingHouse$Grid", "under", "[I", true), ("DrawingHouse$Grid", "lineSize", "I", false)]),
  ("DrawingHouse$Bars", [("DrawingHouse$Bars", "row", "[I", true), ("DrawingHouse$Bars", "number", "[I", true), ("DrawingHouse$Bars", "level", "[I", true), ("DrawingHouse$Bars", "faceX", "[I", true), ("DrawingHouse$Bars", "far", "[I", true), ("DrawingHouse$Bars", "way", "[I", true), ("DrawingHouse$Bars", "size", "I", false)]),
  ("DrawingHouse$Plain", [("DrawingHouse$Plain", "graph", "LDrawingHouse$Graph;", false), ("DrawingHouse$Plain", "shape", "LDrawingHouse$Shape;", false), ("DrawingHouse$Plain", "out", "LDrawingHouse$Drawing;", false), ("DrawingHouse$Plain", "level", "[I", true), ("DrawingHouse$Plain", "leftOf", "[I", true), ("DrawingHouse$Plain", "rightOf", "[I", true), ("DrawingHouse$Plain", "deep", "[I", true), ("DrawingHouse$Plain", "offset", "[I", true), ("DrawingHouse$Plain", "list", "[I", true), ("DrawingHouse$Plain", "sizes", "[I", true), ("DrawingHouse$Plain", "ring", "[I", true), ("DrawingHouse$Plain", "best", "[I", true), ("DrawingHouse$Plain", "px", "[J", true), ("DrawingHouse$Plain", "py", "[J", true), ("DrawingHouse$Plain", "sx", "[J", true), ("DrawingHouse$Plain", "sy", "[J", true)]),
  ("DrawingHouse$Routes", [("DrawingHouse$Routes", "cost", "[I", true), ("DrawingHouse$Routes", "shut", "[Z", true), ("DrawingHouse$Routes", "left", "I", false), ("DrawingHouse$Routes", "top", "I", false), ("DrawingHouse$Routes", "wide", "I", false), ("DrawingHouse$Routes", "high", "I", false), ("DrawingHouse$Routes", "turnX", "[I", true), ("DrawingHouse$Routes", "turnY", "[I", true), ("DrawingHouse$Routes", "turns", "I", false)]),
  ("DrawingHouse$Judge", [("DrawingHouse$Judge", "graph", "LDrawingHouse$Graph;", false), ("DrawingHouse$Judge", "drawing", "LDrawingHouse$Drawing;", false), ("DrawingHouse$Judge", "ax", "I", false), ("DrawingHouse$Judge", "ay", "I", false), ("DrawingHouse$Judge", "bx", "I", false), ("DrawingHouse$Judge", "by", "I", false), ("DrawingHouse$Judge", "cx", "I", false), ("DrawingHouse$Judge", "cy", "I", false), ("DrawingHouse$Judge", "dx", "I", false), ("DrawingHouse$Judge", "dy", "I", false)]),
  ("DrawingHouseModel", [("DrawingHouseModel", "taped", "I", false), ("DrawingHouseModel", "tape", "[B", true), ("DrawingHouseModel", "all", "[I", true), ("DrawingHouseModel", "now", "[I", true), ("DrawingHouseModel", "latest", "[I", true), ("DrawingHouseModel", "\x72", "I", false), ("DrawingHouseModel", "fresh", "[I", true), ("DrawingHouseModel", "isTold", "Z", false), ("DrawingHouseModel", "fault", "I", false), ("DrawingHouseModel", "faultPlace", "I", false), ("DrawingHouseModel", "limit", "I", false), ("DrawingHouseModel", "pos", "I", false), ("DrawingHouseModel", "kind", "I", false), ("DrawingHouseModel", "place", "I", false), ("DrawingHouseModel", "value", "I", false), ("DrawingHouseModel", "from", "I", false), ("DrawingHouseModel", "partOf", "[I", true), ("DrawingHouseModel", "blockOf", "[I", true), ("DrawingHouseModel", "strongOf", "[I", true), ("DrawingHouseModel", "farOf", "[I", true), ("DrawingHouseModel", "line", "[I", true), ("DrawingHouseModel", "reach", "[Z", true), ("DrawingHouseModel", "left", "[Z", true), ("DrawingHouseModel", "map", "[I", true), ("DrawingHouseModel", "mapTried", "[I", true), ("DrawingHouseModel", "isMapped", "Z", false), ("DrawingHouseModel", "mapNodes", "I", false), ("DrawingHouseModel", "steps", "I", false), ("DrawingHouseModel", "rowA", "I", false), ("DrawingHouseModel", "rowB", "I", false), ("DrawingHouseModel", "hasSteps", "Z", false), ("DrawingHouseModel", "pn", "I", false), ("DrawingHouseModel", "pm", "I", false), ("DrawingHouseModel", "pt", "[I", true), ("DrawingHouseModel", "ph", "[I", true), ("DrawingHouseModel", "alive", "[Z", true), ("DrawingHouseModel", "rotMany", "[I", true), ("DrawingHouseModel", "rot", "[I", true), ("DrawingHouseModel", "seen", "[Z", true), ("DrawingHouseModel", "faces", "I", false), ("DrawingHouseModel", "faceMany", "[I", true), ("DrawingHouseModel", "face", "[I", true), ("DrawingHouseModel", "drawnNode", "[Z", true), ("DrawingHouseModel", "drawnEdge", "[Z", true), ("DrawingHouseModel", "pieceOf", "[I", true), ("DrawingHouseModel", "wayMany", "I", false), ("DrawingHouseModel", "way", "[I", true), ("DrawingHouseModel", "goal", "I", false), ("DrawingHouseModel", "toGoal", "[I", true), ("DrawingHouseModel", "onlyPiece", "I", false), ("DrawingHouseModel", "ends", "[I", true), ("DrawingHouseModel", "faceNodes", "[I", true), ("DrawingHouseModel", "bestWay", "[I", true), ("DrawingHouseModel", "rounds", "I", false), ("DrawingHouseModel", "roundOf", "[I", true), ("DrawingHouseModel", "dartAt", "[I", true), ("DrawingHouseModel", "roundBegin", "[I", true), ("DrawingHouseModel", "roundDart", "[I", true), ("DrawingHouseModel", "barredMany", "I", false), ("DrawingHouseModel", "barredKind", "I", false), ("DrawingHouseModel", "barred", "[I", true), ("DrawingHouseModel", "drawn", "[I", true), ("DrawingHouseModel", "nodeX", "[I", true), ("DrawingHouseModel", "nodeY", "[I", true), ("DrawingHouseModel", "bendMany", "[I", true), ("DrawingHouseModel", "bendX", "[I", true), ("DrawingHouseModel", "bendY", "[I", true), ("DrawingHouseModel", "toldCross", "[I", true), ("DrawingHouseModel", "toldSum", "[I", true), ("DrawingHouseModel", "toldLayer", "[I", true), ("DrawingHouseModel", "toldTurned", "[I", true), ("DrawingHouseModel", "toldArea", "[I", true), ("DrawingHouseModel", "toldGroup", "[I", true), ("DrawingHouseModel", "shades", "[I", true), ("DrawingHouseModel", "nx", "[I", true), ("DrawingHouseModel", "ny", "[I", true), ("DrawingHouseModel", "bm", "[I", true), ("DrawingHouseModel", "bx", "[I", true), ("DrawingHouseModel", "by", "[I", true), ("DrawingHouseModel", "pointMany", "I", false), ("DrawingHouseModel", "costMany", "I", false), ("DrawingHouseModel", "apartMany", "I", false), ("DrawingHouseModel", "spot", "[I", true), ("DrawingHouseModel", "costA", "[I", true), ("DrawingHouseModel", "costB", "[I", true), ("DrawingHouseModel", "costW", "[I", true), ("DrawingHouseModel", "costPlain", "[Z", true), ("DrawingHouseModel", "apartA", "[I", true), ("DrawingHouseModel", "apartB", "[I", true), ("DrawingHouseModel", "apart", "[I", true), ("DrawingHouseModel", "flow", "[I", true), ("DrawingHouseModel", "cameBy", "[I", true), ("DrawingHouseModel", "queue", "[I", true), ("DrawingHouseModel", "goes", "[I", true), ("DrawingHouseModel", "pushes", "I", false), ("DrawingHouseModel", "turned", "[Z", true), ("DrawingHouseModel", "order", "[I", true), ("DrawingHouseModel", "best", "[I", true), ("DrawingHouseModel", "member", "[I", true), ("DrawingHouseModel", "members", "I", false), ("DrawingHouseModel", "items", "I", false), ("DrawingHouseModel", "layerMany", "I", false), ("DrawingHouseModel", "itemLayer", "[I", true), ("DrawingHouseModel", "itemEdge", "[I", true), ("DrawingHouseModel", "firstJoint", "[I", true), ("DrawingHouseModel", "layerSize", "[I", true), ("DrawingHouseModel", "layerItem", "[I", true), ("DrawingHouseModel", "lines", "I", false), ("DrawingHouseModel", "lineA", "[I", true), ("DrawingHouseModel", "lineB", "[I", true), ("DrawingHouseModel", "permBegin", "[I", true), ("DrawingHouseModel", "permMany", "[I", true), ("DrawingHouseModel", "perm", "[B", true), ("DrawingHouseModel", "rest", "[I", true), ("DrawingHouseModel", "worse", "[I", true), ("DrawingHouseModel", "listed", "[I", true), ("DrawingHouseModel", "inOrder", "[I", true), ("DrawingHouseModel", "row", "[I", true), ("DrawingHouseModel", "kept", "[I", true), ("DrawingHouseModel", "meanA", "[J", true), ("DrawingHouseModel", "meanB", "[J", true), ("DrawingHouseModel", "upper", "I", false), ("DrawingHouseModel", "upperNode", "[I", true), ("DrawingHouseModel", "under", "[I", true), ("DrawingHouseModel", "number", "[I", true), ("DrawingHouseModel", "rowMany", "I", false), ("DrawingHouseModel", "toldNumber", "[I", true), ("DrawingHouseModel", "above", "[I", true), ("DrawingHouseModel", "level", "[I", true), ("DrawingHouseModel", "root", "[I", true), ("DrawingHouseModel", "itemOf", "[I", true), ("DrawingHouseModel", "itemSize", "[I", true), ("DrawingHouseModel", "itemMany", "I", false), ("DrawingHouseModel", "shapeA", "J", false), ("DrawingHouseModel", "shapeB", "J", false), ("DrawingHouseModel", "fx", "[J", true), ("DrawingHouseModel", "fy", "[J", true), ("DrawingHouseModel", "wx", "[J", true), ("DrawingHouseModel", "wy", "[J", true), ("DrawingHouseModel", "g0", "I", false), ("DrawingHouseModel", "costOf", "[I", true), ("DrawingHouseModel", "bucket", "[I", true), ("DrawingHouseModel", "bucketMany", "[I", true), ("DrawingHouseModel", "barredPoint", "[Z", true), ("DrawingHouseModel", "left0", "I", false), ("DrawingHouseModel", "top0", "I", false), ("DrawingHouseModel", "wide", "I", false), ("DrawingHouseModel", "tall", "I", false), ("DrawingHouseModel", "turnX", "[I", true), ("DrawingHouseModel", "turnY", "[I", true), ("DrawingHouseModel", "labels", "I", false), ("DrawingHouseModel", "labelX", "[I", true), ("DrawingHouseModel", "labelY", "[I", true), ("DrawingHouseModel", "leastX", "I", false), ("DrawingHouseModel", "mostX", "I", false), ("DrawingHouseModel", "leastY", "I", false), ("DrawingHouseModel", "mostY", "I", false), ("DrawingHouseModel", "tokens", "I", false), ("DrawingHouseModel", "cur", "I", false), ("DrawingHouseModel", "opened", "I", false), ("DrawingHouseModel", "tokenKind", "[I", true), ("DrawingHouseModel", "tokenValue", "[J", true), ("DrawingHouseModel", "tokenPlace", "[I", true), ("DrawingHouseModel", "tokenEnd", "[I", true), ("DrawingHouseModel", "styleKind", "I", false), ("DrawingHouseModel", "styleOne", "I", false), ("DrawingHouseModel", "partOfBlocks", "[I", true), ("DrawingHouseModel", "coreOf", "[I", true), ("DrawingHouseModel", "turnedNow", "[Z", true), ("DrawingHouseModel", "octets", "I", false), ("DrawingHouseModel", "texts", "I", false), ("DrawingHouseModel", "octet", "[B", true), ("DrawingHouseModel", "written", "[B", true), ("DrawingHouseModel", "dotWide", "I", false), ("DrawingHouseModel", "dotTall", "I", false), ("DrawingHouseModel", "dots", "[I", true)])]
def q_cl : List vw_C := q_fl.map (fun c => (c.1, (fun k => c.2.getD k ("", "", "", false)), c.2.length))
def q_ftL : List (List Nat) := [
  [2, 0, 2, 2, 2, 0, 0, 2, 0, 2, 2, 2, 0, 0, 2, 2, 2, 0, 0, 2, 2, 2, 2, 2, 2, 2, 2, 2, 0, 0, 2, 2, 0, 0, 2, 2, 2],
  [2, 0, 0, 2, 2, 2],
  [0, 0, 0, 0, 0, 2, 2, 2, 2, 2, 2, 2, 2, 2, 2],
  [0, 0, 0, 2, 2, 2, 2, 2, 2, 2, 2, 2, 2, 2],
  [2, 2, 2, 0, 0, 0, 0, 0, 0, 0],
  [2, 2, 2, 2, 2, 0],
  [2, 2, 0, 0, 0, 0, 2, 2, 2, 2, 2, 2, 0, 0, 0, 0, 0, 0, 0],
  [2, 2, 2, 2, 2, 2, 0, 0, 0, 2, 2, 2, 0, 0, 1, 2],
  [2, 2, 0, 0, 0, 2, 2, 2, 2],
  [2, 2, 0, 0, 2, 0, 2, 0, 0, 2, 2, 2, 2, 2, 0, 2, 2, 0, 2, 2],
  [0, 0, 0, 2, 2, 2, 2, 2, 2, 2, 2],
  [2, 2, 2, 2, 2, 2, 2, 2, 2, 2, 2, 2, 0, 0, 2, 2, 2, 0, 2, 2, 2, 2, 2, 2, 2, 2, 2],
  [0, 0, 2, 2, 2, 2, 2, 2],
  [2, 2, 2, 2, 2, 2, 2, 0],
  [2, 2, 2, 2, 2, 2, 0],
  [2, 2, 2, 2, 2, 2, 2, 2, 2, 2, 2, 2, 2, 2, 2, 2],
  [2, 2, 0, 0, 0, 0, 2, 2, 0],
  [2, 2, 0, 0, 0, 0, 0, 0, 0, 0],
  [0, 2, 2, 2, 2, 0, 2, 0, 0, 0, 0, 0, 0, 0, 0, 0, 2, 2, 2, 2, 2, 2, 2, 2, 2, 0, 0, 0, 0, 0, 0, 0, 0, 2, 2, 2, 2, 2, 2, 0, 2, 2, 2, 2, 2, 0, 2, 0, 2, 0, 2, 2, 2, 0, 2, 2, 2, 2, 0, 0, 2, 2, 2, 2, 2, 2, 2, 2, 2, 2, 2, 2, 2, 2, 2, 2, 2, 2, 2, 0, 0, 0, 2, 2, 2, 2, 2, 2, 2, 2, 2, 2, 2, 2, 0, 2, 2, 2, 2, 0, 0, 0, 2, 2, 2, 2, 2, 0, 2, 2, 2, 2, 2, 2, 2, 2, 2, 2, 2, 2, 2, 0, 2, 2, 2, 0, 2, 2, 2, 2, 2, 2, 0, 1, 1, 2, 2, 2, 2, 0, 2, 2, 2, 2, 0, 0, 0, 0, 2, 2, 0, 2, 2, 0, 0, 0, 0, 0, 0, 0, 2, 2, 2, 2, 0, 0, 2, 2, 2, 0, 0, 2, 2, 0, 0, 2]]
def q_ft (c k : Nat) : Nat := (q_ftL.getD c []).getD k 0
/-- array kinds: 100 int, 101 byte, 102 boolean, 103 long, 104 Place, 105 Graph, 106 String -/
def q_aty (t : Nat) : FieldType := if t = 100 then .int else if t = 101 then .byte else if t = 102 then .boolean else if t = 103 then .long else if t = 104 then .object "DrawingHouse$Place" else if t = 105 then .object "DrawingHouse$Graph" else .object "java/lang/String"
def q_ae (t : Nat) : Nat := if t < 103 then 0 else if t = 103 then 1 else 2
def q_shL : List (Nat × Int) := [
  (0, 0), (101, 2000), (104, 4), (1, 0), (105, 31), (2, 0), (100, 24), (100, 24), (100, 48), (100, 1152), (100, 1152), (100, 24),
  (100, 24), (100, 96), (100, 32), (102, 48), (100, 72), (100, 144), (3, 0), (101, 192), (101, 64), (100, 24), (100, 24), (100, 24),
  (100, 48), (100, 48), (100, 48), (102, 48), (100, 8), (100, 8), (1, 0), (105, 31), (2, 0), (100, 24), (100, 24), (100, 48),
  (100, 1152), (100, 1152), (100, 24), (100, 24), (100, 96), (100, 32), (102, 48), (100, 72), (100, 144), (3, 0), (101, 192), (101, 64),
  (100, 24), (100, 24), (100, 24), (100, 48), (100, 48), (100, 48), (102, 48), (100, 8), (100, 8), (1, 0), (105, 31), (2, 0),
  (100, 24), (100, 24), (100, 48), (100, 1152), (100, 1152), (100, 24), (100, 24), (100, 96), (100, 32), (102, 48), (100, 72), (100, 144),
  (3, 0), (101, 192), (101, 64), (100, 24), (100, 24), (100, 24), (100, 48), (100, 48), (100, 48), (102, 48), (100, 8), (100, 8),
  (1, 0), (105, 31), (2, 0), (100, 24), (100, 24), (100, 48), (100, 1152), (100, 1152), (100, 24), (100, 24), (100, 96), (100, 32),
  (102, 48), (100, 72), (100, 144), (3, 0), (101, 192), (101, 64), (100, 24), (100, 24), (100, 24), (100, 48), (100, 48), (100, 48),
  (102, 48), (100, 8), (100, 8), (4, 0), (101, 2000), (5, 0), (3, 0), (101, 192), (101, 64), (100, 24), (100, 24), (100, 24),
  (100, 48), (100, 48), (100, 48), (102, 48), (100, 8), (100, 8), (6, 0), (101, 2000), (5, 0), (100, 4000), (100, 4000), (106, 10),
  (106, 8), (106, 3), (103, 64), (7, 0), (100, 24), (100, 24), (100, 24), (100, 24), (100, 48), (100, 24), (100, 24), (100, 24),
  (100, 48), (8, 0), (100, 24), (100, 24), (100, 576), (100, 576), (100, 24), (100, 24), (9, 0), (100, 72), (100, 72), (100, 72),
  (102, 72), (100, 1248), (100, 48), (100, 48), (100, 72), (100, 72), (100, 25), (100, 25), (100, 625), (100, 26), (10, 0), (100, 80),
  (100, 80), (100, 24), (100, 768), (100, 9600), (100, 60), (100, 80), (100, 80), (3, 0), (101, 192), (101, 64), (100, 24), (100, 24),
  (100, 24), (100, 48), (100, 48), (100, 48), (102, 48), (100, 8), (100, 8), (7, 0), (100, 24), (100, 24), (100, 24), (100, 24),
  (100, 48), (100, 24), (100, 24), (100, 24), (100, 48), (100, 48), (2, 0), (100, 24), (100, 24), (100, 48), (100, 1152), (100, 1152),
  (100, 24), (100, 24), (100, 96), (100, 32), (102, 48), (11, 0), (12, 0), (100, 420), (100, 420), (100, 420), (100, 420), (100, 220),
  (100, 220), (102, 48), (100, 24), (100, 73), (100, 73), (100, 25), (100, 24), (100, 72), (100, 72), (100, 72), (100, 120), (100, 120),
  (100, 120), (100, 128), (100, 72), (100, 72), (100, 72), (100, 4320), (100, 720), (100, 720), (100, 17280), (100, 36), (13, 0), (100, 24),
  (100, 25), (100, 24), (100, 24), (100, 24), (100, 24), (100, 24), (14, 0), (100, 24), (100, 24), (100, 24), (100, 60), (100, 24),
  (100, 24), (15, 0), (100, 24), (100, 576), (100, 576), (100, 24), (100, 24), (100, 32), (100, 32), (100, 24), (100, 24), (103, 24),
  (103, 24), (103, 24), (103, 24), (16, 0), (100, 24000), (102, 6000), (100, 24), (100, 24), (17, 0), (102, 48), (101, 4000), (101, 4000),
  (100, 4096), (100, 48), (100, 48), (102, 48), (18, 0), (101, 2000), (100, 66836), (100, 4), (100, 4), (100, 539), (100, 25), (100, 80),
  (100, 24), (100, 25), (100, 100), (102, 576), (102, 25), (100, 24), (100, 24), (100, 80), (100, 80), (102, 80), (100, 26), (100, 2080),
  (102, 26), (100, 120), (100, 7200), (102, 26), (102, 80), (100, 80), (100, 30), (100, 26), (100, 80), (100, 120), (100, 30), (100, 160),
  (100, 160), (100, 161), (100, 160), (100, 80), (100, 4), (100, 96), (100, 96), (100, 192), (100, 4608), (100, 4608), (100, 4), (100, 4),
  (100, 96), (100, 192), (100, 384), (100, 128), (100, 864), (100, 100), (100, 100), (100, 48), (100, 1152), (100, 1152), (100, 76), (100, 200),
  (100, 200), (100, 200), (102, 200), (100, 200), (100, 200), (100, 200), (100, 6084), (100, 78), (100, 100), (100, 78), (102, 48), (100, 26),
  (100, 26), (100, 26), (100, 76), (100, 76), (100, 48), (100, 76), (100, 5776), (100, 130), (100, 130), (100, 8), (100, 8), (101, 6000),
  (100, 54720), (100, 36), (100, 76), (100, 6), (100, 100), (100, 5776), (103, 76), (103, 76), (100, 30), (100, 26), (100, 26), (100, 26),
  (100, 26), (100, 26), (100, 26), (100, 40), (100, 40), (103, 26), (103, 26), (103, 26), (103, 26), (100, 24000), (100, 96040), (100, 4),
  (102, 6000), (100, 26), (100, 26), (100, 48), (100, 48), (100, 2010), (103, 2010), (100, 2010), (100, 2010), (100, 26), (100, 26), (102, 48),
  (101, 4000), (101, 4000), (100, 4096)]
/-- the shapes of a Graph and its arrays, as its constructor makes them -/
def q_shG : List (Nat × Int) := [(3, 0), (101, 192), (101, 64), (100, 24), (100, 24), (100, 24), (100, 48), (100, 48), (100, 48), (102, 48), (100, 8), (100, 8)]
def q_shp (a : Int) : Nat × Int := if a < 399 then q_shL.getD a.toNat (0, 0) else q_shG.getD ((a - 399) % 12).toNat (0, 0)
def q_ok (w : Cond) : Bool := (w.onTables && w.keeps) || (match w with | .arrayClass _ => true | _ => false)
/-- the words that every method takes -/
def q_G : List Cond := lw_tbl.filter q_ok
def q_isN (w : Cond) : Bool := match w with | .fieldLinkNest .. => true | .methodLinkNest .. => true | .declares .. => true | _ => false
/-- the String constants: class, entry, text, number of the text -/
def q_sr : List (String × Nat × String × Nat) := [("DrawingHouse$Style", 20, "deg", 0), ("DrawingHouse$Style", 22, "in", 1), ("DrawingHouse$Style", 24, "out", 2), ("DrawingHouse$Style", 26, "size", 3), ("DrawingHouse$Style", 28, "group", 4), ("DrawingHouse$Style", 30, "far", 5), ("DrawingHouse$Style", 32, "core", 6), ("DrawingHouse$Style", 34, "cut", 7), ("DrawingHouse$Style", 36, "x", 8), ("DrawingHouse$Style", 38, "y", 9), ("DrawingHouse$Style", 44, "weight", 10), ("DrawingHouse$Style", 46, "turned", 11), ("DrawingHouse$Style", 48, "bridge", 12), ("DrawingHouse$Style", 50, "from", 13), ("DrawingHouse$Style", 52, "to", 14), ("DrawingHouse$Style", 54, "block", 15), ("DrawingHouse$Style", 56, "long", 16), ("DrawingHouse$Style", 58, "one", 17), ("DrawingHouse$Style", 63, "color", 18), ("DrawingHouse$Style", 65, "width", 19), ("DrawingHouse$Style", 67, "form", 20), ("DrawingHouse$GraphReader", 44, "node", 21), ("DrawingHouse$GraphReader", 50, "group", 22), ("DrawingHouse$GraphReader", 94, "size", 23), ("DrawingHouse$GraphReader", 112, "weight", 24), ("DrawingHouse$Style", 101, "node", 25), ("DrawingHouse$Style", 111, "edge", 26), ("DrawingHouse$Style", 113, "if", 27), ("DrawingHouse$Style", 151, "not", 28), ("DrawingHouse$Style", 149, "and", 29), ("DrawingHouse$Style", 145, "or", 30), ("DrawingHouse", 593, "node ", 31), ("DrawingHouse", 599, " [size=", 32), ("DrawingHouse", 605, "group ", 33), ("DrawingHouse", 607, " {", 34), ("DrawingHouse", 612, " > ", 35), ("DrawingHouse", 614, " - ", 36), ("DrawingHouse", 616, " [weight=", 37), ("DrawingHouseModel", 467, "node", 38), ("DrawingHouseModel", 473, "group", 39), ("DrawingHouseModel", 497, "size", 40), ("DrawingHouseModel", 519, "weight", 41), ("DrawingHouseModel", 1193, "edge", 42), ("DrawingHouseModel", 1198, "if", 43), ("DrawingHouseModel", 1230, "not", 44), ("DrawingHouseModel", 1254, "deg", 45), ("DrawingHouseModel", 1256, "in", 46), ("DrawingHouseModel", 1257, "out", 47), ("DrawingHouseModel", 1259, "far", 48), ("DrawingHouseModel", 1261, "core", 49), ("DrawingHouseModel", 1262, "cut", 50), ("DrawingHouseModel", 1263, "x", 51), ("DrawingHouseModel", 1265, "y", 52), ("DrawingHouseModel", 1267, "turned", 53), ("DrawingHouseModel", 1268, "bridge", 54), ("DrawingHouseModel", 1270, "from", 55), ("DrawingHouseModel", 1271, "to", 56), ("DrawingHouseModel", 1272, "block", 57), ("DrawingHouseModel", 1274, "long", 58), ("DrawingHouseModel", 1276, "one", 59), ("DrawingHouseModel", 1228, "and", 60), ("DrawingHouseModel", 1223, "or", 61), ("DrawingHouseModel", 1206, "color", 62), ("DrawingHouseModel", 1208, "width", 63), ("DrawingHouseModel", 1210, "form", 64), ("DrawingHouseModel", 1288, "node ", 65), ("DrawingHouseModel", 1296, " [size=", 66), ("DrawingHouseModel", 1301, "]", 67), ("DrawingHouseModel", 1303, ";\n", 68), ("DrawingHouseModel", 1305, "group ", 69), ("DrawingHouseModel", 1307, " {\n", 70), ("DrawingHouseModel", 1312, "}\n", 71), ("DrawingHouseModel", 1314, " > ", 72), ("DrawingHouseModel", 1316, " - ", 73), ("DrawingHouseModel", 1318, " [weight=", 74)]
def q_sb : List (List Int32) := [[100, 101, 103], [105, 110], [111, 117, 116], [115, 105, 122, 101], [103, 114, 111, 117, 112], [102, 97, 114], [99, 111, 114, 101], [99, 117, 116], [120], [121], [119, 101, 105, 103, 104, 116], [116, 117, 114, 110, 101, 100], [98, 114, 105, 100, 103, 101], [102, 114, 111, 109], [116, 111], [98, 108, 111, 99, 107], [108, 111, 110, 103], [111, 110, 101], [99, 111, 108, 111, 114], [119, 105, 100, 116, 104], [102, 111, 114, 109], [110, 111, 100, 101], [103, 114, 111, 117, 112], [115, 105, 122, 101], [119, 101, 105, 103, 104, 116], [110, 111, 100, 101], [101, 100, 103, 101], [105, 102], [110, 111, 116], [97, 110, 100], [111, 114], [110, 111, 100, 101, 32], [32, 91, 115, 105, 122, 101, 61], [103, 114, 111, 117, 112, 32], [32, 123], [32, 62, 32], [32, 45, 32], [32, 91, 119, 101, 105, 103, 104, 116, 61], [110, 111, 100, 101], [103, 114, 111, 117, 112], [115, 105, 122, 101], [119, 101, 105, 103, 104, 116], [101, 100, 103, 101], [105, 102], [110, 111, 116], [100, 101, 103], [105, 110], [111, 117, 116], [102, 97, 114], [99, 111, 114, 101], [99, 117, 116], [120], [121], [116, 117, 114, 110, 101, 100], [98, 114, 105, 100, 103, 101], [102, 114, 111, 109], [116, 111], [98, 108, 111, 99, 107], [108, 111, 110, 103], [111, 110, 101], [97, 110, 100], [111, 114], [99, 111, 108, 111, 114], [119, 105, 100, 116, 104], [102, 111, 114, 109], [110, 111, 100, 101, 32], [32, 91, 115, 105, 122, 101, 61], [93], [59, 10], [103, 114, 111, 117, 112, 32], [32, 123, 10], [125, 10], [32, 62, 32], [32, 45, 32], [32, 91, 119, 101, 105, 103, 104, 116, 61]]
def q_ns : Nat := 75
def q_aos : List String := ["DrawingHouse$Place", "DrawingHouse$Graph", "java/lang/String"]
def q_zqs : List (String × String × String × Nat) := [("java/lang/Throwable", "UNASSIGNED_STACK", "[Ljava/lang/StackTraceElement;", 2000), ("java/lang/Throwable", "SUPPRESSED_SENTINEL", "Ljava/util/List;", 2001), ("jdk/internal/util/Preconditions", "SIOOBE_FORMATTER", "Ljava/util/function/BiFunction;", 2002)]
/-- the nest mates' words -/
def q_N : List Cond := tables_1.filter q_isN
end
section
/-! ===== THE CALCULUS: values, heaps and states of a plain machine; 'qR': from here the method comes to its end with Q; 'qM': the method, called so, does =====
values: .inl z an int, .inr (.inl z) a long, .inr (.inr z) a reference: -1 null, z ≥ 0 the cell z of the world, z ≤ -2 the constant -z-2
heaps: ((cells, cells that may still be made, slots that may still be made), what stands at a cell's place) -/
abbrev qv : Type := Int ⊕ (Int ⊕ Int)
abbrev qh : Type := (Nat × Nat × Nat) × (Int → Int → Int)
abbrev qD : Type := va_G × (Nat → ClassId) × Nat × (Nat → Nat)
abbrev qm : Type := MethodName × ByteArray × Nat × Option FieldType
abbrev qQ : Type := Option qv → qh → Prop
abbrev qK : Type := List (Option qv) → List qv → qh → Prop
abbrev r32 (z : Int) : Prop := -2147483648 ≤ z ∧ z ≤ 2147483647
abbrev r64 (z : Int) : Prop := -9223372036854775808 ≤ z ∧ z ≤ 9223372036854775807
def qok (n : Nat) : qv → Prop
  | .inl z => r32 z
  | .inr (.inl z) => r64 z
  | .inr (.inr z) => z < n
def qrf (D : qD) (z : Int) : Value := if z = -1 then .null else if 0 ≤ z then .ref (D.2.2.1 + z.toNat) else .ref (D.2.2.2 (-z - 2).toNat)
def qtv (D : qD) : qv → Value
  | .inl z => .int (Int32.ofInt z)
  | .inr (.inl z) => .long (Int64.ofInt z)
  | .inr (.inr z) => qrf D z
def qty (t : Nat) (z : Int) : qv := if t = 0 then .inl z else if t = 1 then .inr (.inl z) else .inr (.inr z)
def qdf (t : Nat) : Int := if t = 0 then 0 else if t = 1 then 0 else -1
def qcat : qv → Nat
  | .inr (.inl _) => 2
  | _ => 1
theorem qcat_eq (D : qD) (v : qv) : (qtv D v).category = qcat v := sorry
theorem qrf_ref (D : qD) {z : Int} (h : 0 ≤ z) : qrf D z = .ref (D.2.2.1 + z.toNat) := sorry
/-- the type of a place of a cell -/
def q_tp (a : Int) (i : Nat) : Nat := if (q_shp a).1 < 100 then q_ft (q_shp a).1 i else q_ae (q_shp a).1
def q_cell (D : qD) (v : Int → Int → Int) (a : Nat) (H : Heap) : Prop :=
  if (q_shp a).1 < 100 then ∃ r : vw_C, q_cl[(q_shp a).1]? = some r ∧ t_OB (D.2.2.1 + a) (D.1.1 (q_shp a).1) r.2.2 (D.1.2 (q_shp a).1) H (fun k => qtv D (qty (q_ft (q_shp a).1 k) (v a k)))
  else H[D.2.2.1 + a]? = some (arrV (D.2.1 (q_shp a).1) (q_shp a).2.toNat (fun j => qtv D (qty (q_ae (q_shp a).1) (v a j))))
/-- what an array of a small type holds -/
def q_fit (t : Nat) (z : Int) : Prop := (t = 101 → -128 ≤ z ∧ z ≤ 127) ∧ (t = 102 → z = 0 ∨ z = 1)
def q_HR (D : qD) (h : qh) (H : Heap) : Prop :=
  H.size = D.2.2.1 + h.1.1 ∧ (∀ a : Nat, a < h.1.1 → q_cell D h.2 a H) ∧ (∀ (a : Nat) (i : Nat), a < h.1.1 → qok h.1.1 (qty (q_tp a i) (h.2 a i))) ∧ ∀ (a : Nat) (i : Nat), a < h.1.1 → q_fit (q_shp a).1 (h.2 a i)
def q_A (D : qD) : Nat → Prop := fun q => D.2.2.1 ≤ q
/-- a String constant: a String of Latin letters -/
def q_sO (D : qD) (i : Nat) (U : State) (H : Heap) : Prop := va_O "java/lang/String" (D.2.2.2 i) (q_A D) U H ∧ va_OF "java/lang/String" "coder" "B" (.int 0) (D.2.2.2 i) (q_A D) U H ∧ va_OF "java/lang/String" "value" "[B" (.ref (D.2.2.2 (1000 + i))) (D.2.2.2 i) (q_A D) U H ∧ va_T .byte (D.2.2.2 (1000 + i)) (q_sb.getD i []).length (fun j => .int ((q_sb.getD i []).getD j 0)) (q_A D) U H
/-- what the tables say of the world; the constants -/
def q_W (D : qD) (U : State) : Prop :=
  (∀ (c : Nat) (r : vw_C), q_cl[c]? = some r → u_Kn U r.1 r.2.1 r.2.2 (D.1.1 c) (D.1.2 c)) ∧
  (∀ t : Nat, 100 ≤ t → t < 107 → ArrOfT U (D.2.1 t) (q_aty t) ∧ va_RA U (D.2.1 t) (q_aty t)) ∧
  (∀ w ∈ q_N, va_Nw w U) ∧
  (∀ C ∈ q_aos, va_AO C U) ∧ (∀ e ∈ q_sr, vk_R e.1 e.2.1 e.2.2.1 (D.2.2.2 e.2.2.2) U) ∧ (∀ i, i < q_ns → q_sO D i U U.heap) ∧
  va_Z "java/lang/String" "COMPACT_STRINGS" "Z" (.int 1) (q_A D) U U.heap ∧ ∀ z ∈ q_zqs, va_Z z.1 z.2.1 z.2.2.1 .null (q_A D) U U.heap ∨ va_Z z.1 z.2.1 z.2.2.1 (.ref (D.2.2.2 z.2.2.2)) (q_A D) U U.heap
theorem q_W.same {D : qD} {u U : State} (h : q_W D u) (he : u.vm = U.vm) (hh : U.heap = u.heap) : q_W D U := sorry
theorem q_W.warm {D : qD} {u U : State} (h : q_W D u) (hW : u.WarmedH U.vm) (hq : ∀ a : Nat, a < u.heap.size → ¬ q_A D a → U.heap[a]? = u.heap[a]?) : q_W D U := sorry
def q_C (M : qm) (p : Program) (s : State) (m : MethodId) (args : Array Value) (meth : Method) (c : Code) : Prop :=
  p.tables.exec = Jvm.exec ∧ c.code = M.2.1 ∧ meth.sig.returnType = M.2.2.2 ∧ c.maxLocals = M.2.2.1 ∧ s.vm.findClass M.1.cls = some m.cls ∧ (∀ w ∈ q_G, w.before args s = true) ∧ meth.locks = false ∧ meth.name = M.1.name
/-- the locals' list of the kit, from ours -/
def qls (D : qD) : Nat → List (Option qv) → List (Nat × Value)
  | _, [] => []
  | n, none :: r => qls D (n + 1) r
  | n, some v :: r => (n, qtv D v) :: qls D (n + 1) r
theorem qls_mem {D : qD} {q : Nat × Value} : ∀ {ls : List (Option qv)} {n : Nat}, q ∈ qls D n ls ↔ ∃ (i : Nat) (v : qv), ls[i]? = some (some v) ∧ q = (n + i, qtv D v) := sorry
theorem qls_at {D : qD} {ls : List (Option qv)} {lsA : Array Slot} {nL i : Nat} {v : qv} (h : lv_has lsA nL (qls D 0 ls)) (hi : ls[i]? = some (some v)) : lsA[i]? = some (.val (qtv D v)) := sorry
abbrev qd : Type := Nat × Nat × Nat
/-- the room of a method that may call so deep and make so much: (depth, cells, slots); what it may still make stands in the heap -/
def q_Rm (d : qd) (h : qh) (R : Room) (cells slots : Nat) : Prop := d.1 ≤ R.frames ∧ 100 * d.1 ≤ R.locals ∧ cells + h.1.2.1 ≤ d.2.1 ∧ slots + h.1.2.2 ≤ d.2.2 ∧ d.2.1 ≤ R.cells ∧ d.2.2 ≤ R.slots
def q_P (D : qD) (Q : qQ) : Array Value → State → Outcome → State → Prop := fun _ s o t =>
  ∃ (r : Option qv) (h' : qh), Q r h' ∧ (∀ v, r = some v → qok h'.1.1 v) ∧ o = .returned (r.map (qtv D)) ∧ q_HR D h' t.heap ∧ va_F (q_A D) s t
def qR (l : Launch) (D : qD) (d : qd) (M : qm) (pc : Nat) (Q : qQ) (ls : List (Option qv)) (st : List qv) (h : qh) : Prop :=
  ∀ (p : Program) (e : Env) (R : Room) (s : State) (m : MethodId) (args : Array Value) (below : List Frame) (meth : Method) (c : Code) (H : Heap) (locs : List Loc) (cells slots : Nat) (lsA : Array Slot),
    q_C M p s m args meth c → q_W D s → q_HR D h H → (∀ v, some v ∈ ls → qok h.1.1 v) → (∀ v ∈ st, qok h.1.1 v) → va_S (q_A D) s.heap H locs → q_Rm d h R cells slots → lv_has lsA M.2.2.1 (qls D 0 ls) →
    W p l e R s m args below meth c H locs cells slots (MQ below (q_P D Q) args s d.2.1 d.2.2 (q_A D)) (F0 m pc lsA (st.map (qtv D)))
def qM (l : Launch) (D : qD) (d : qd) (M : qm) (as : List qv) (h : qh) (Q : qQ) : Prop :=
  d.2.1 ≤ h.1.2.1 ∧ d.2.2 ≤ h.1.2.2 ∧
    Met l M.1 (Cond.code M.1 M.2.1 M.2.2.1 M.2.2.2 :: q_G) { frames := d.1, cells := d.2.1, slots := d.2.2, locals := 100 * d.1 } (va_Pc (as.map (qtv D)) (fun U => q_HR D h U.heap ∧ q_W D U ∧ ∀ v ∈ as, qok h.1.1 v)) (q_P D (fun r h' => Q r ((h'.1.1, h.1.2.1 - d.2.1, h.1.2.2 - d.2.2), h'.2))) d.2.1 d.2.2 (q_A D)
/-- what the first asks is enough for the second -/
def qI (S T : qK) : Prop := ∀ ls st h, S ls st h → T ls st h
theorem qR.mono {l : Launch} {D : qD} {d : qd} {M : qm} {pc : Nat} {Q Q' : qQ} {ls : List (Option qv)} {st : List qv} {h : qh} (hQ : ∀ r h', Q r h' → Q' r h') (k : qR l D d M pc Q ls st h) : qR l D d M pc Q' ls st h := sorry
/-! ### one step that leaves heap and locals as they are -/
theorem qR.st {l : Launch} {D : qD} {d : qd} {M : qm} {pc pc' : Nat} {Q : qQ} {ls : List (Option qv)} {st st' : List qv} {h : qh}
    (hok : (∀ v, some v ∈ ls → qok h.1.1 v) → (∀ v ∈ st, qok h.1.1 v) → ∀ v ∈ st', qok h.1.1 v)
    (hs : ∀ {p : Program} {e : Env} {R : Room} {s : State} {m : MethodId} {args : Array Value} {below : List Frame} {meth : Method} {c : Code} {H : Heap} {locs : List Loc} {cells slots : Nat} {lsA : Array Slot} {Qw : State → Prop},
      q_C M p s m args meth c → lv_has lsA M.2.2.1 (qls D 0 ls) → (∀ v, some v ∈ ls → qok h.1.1 v) → (∀ v ∈ st, qok h.1.1 v) → W p l e R s m args below meth c H locs cells slots Qw (F0 m pc' lsA (st'.map (qtv D))) → W p l e R s m args below meth c H locs cells slots Qw (F0 m pc lsA (st.map (qtv D))))
    (k : qR l D d M pc' Q ls st' h) : qR l D d M pc Q ls st h := sorry
end
section
/-! ===== ONE INSTRUCTION: what it asks and does (s_..), and that the machine does it (ok_..) ===== -/
def q_nth : List (Option qv) → Nat → Option qv
  | [], _ => none
  | x :: _, 0 => x
  | _ :: r, n + 1 => q_nth r n
theorem q_nth_eq : ∀ {ls : List (Option qv)} {i : Nat} {v : qv}, q_nth ls i = some v → ls[i]? = some (some v) := sorry
def q_cl1 : Option qv → Option qv
  | some (.inr (.inl _)) => none
  | y => y
def qst1 : List (Option qv) → Nat → qv → List (Option qv)
  | [], _, _ => []
  | _ :: r, 0, v => some v :: r
  | x :: r, 1, v => q_cl1 x :: qst1 r 0 v
  | x :: r, n + 2, v => x :: qst1 r (n + 1) v
def q_nx : List (Option qv) → List (Option qv)
  | [] => []
  | _ :: t => none :: t
def qst2 : List (Option qv) → Nat → qv → List (Option qv)
  | [], _, _ => []
  | _ :: r, 0, v => some v :: q_nx r
  | x :: r, 1, v => q_cl1 x :: qst2 r 0 v
  | x :: r, n + 2, v => x :: qst2 r (n + 1) v
theorem q_cl1_some {x : Option qv} {w : qv} (h : q_cl1 x = some w) : x = some w ∧ qcat w = 1 := sorry
theorem qst1_get : ∀ {ls : List (Option qv)} {i j : Nat} {v w : qv}, (qst1 ls i v)[j]? = some (some w) → (j = i ∧ w = v) ∨ (j ≠ i ∧ ls[j]? = some (some w) ∧ ¬ (j + 1 = i ∧ qcat w = 2)) := sorry
theorem qst2_get : ∀ {ls : List (Option qv)} {i j : Nat} {v w : qv}, (qst2 ls i v)[j]? = some (some w) → (j = i ∧ w = v) ∨ (j ≠ i ∧ j ≠ i + 1 ∧ ls[j]? = some (some w) ∧ ¬ (j + 1 = i ∧ qcat w = 2)) := sorry
theorem q_has1 {D : qD} {ls : List (Option qv)} {lsA : Array Slot} {nL i : Nat} {v : qv} (h : lv_has lsA nL ((i, qtv D v) :: (qls D 0 ls).filter (fun q => !(q.1 == i) && !(q.1 + 1 == i && q.2.category == 2)))) : lv_has lsA nL (qls D 0 (qst1 ls i v)) := sorry
theorem q_has2 {D : qD} {ls : List (Option qv)} {lsA : Array Slot} {nL i : Nat} {v : qv} (h : lv_has lsA nL ((i, qtv D v) :: (qls D 0 ls).filter (fun q => !(q.1 == i) && (!(q.1 == i + 1) && !(q.1 + 1 == i && q.2.category == 2))))) : lv_has lsA nL (qls D 0 (qst2 ls i v)) := sorry
theorem q_oks1 {n : Nat} {ls : List (Option qv)} {i : Nat} {v : qv} (h : ∀ w, some w ∈ ls → qok n w) (hv : qok n v) : ∀ w, some w ∈ qst1 ls i v → qok n w := sorry
theorem q_oks2 {n : Nat} {ls : List (Option qv)} {i : Nat} {v : qv} (h : ∀ w, some w ∈ ls → qok n w) (hv : qok n v) : ∀ w, some w ∈ qst2 ls i v → qok n w := sorry
section OPS
variable {l : Launch} {D : qD} {d : qd} {M : qm} {pc : Nat} {Q : qQ} {K : qK}
/-! constants -/
def s_ic (z : Int) (K : qK) : qK := fun ls st h => K ls (.inl z :: st) h
def s_lc (z : Int) (K : qK) : qK := fun ls st h => K ls (.inr (.inl z) :: st) h
def s_null (K : qK) : qK := fun ls st h => K ls (.inr (.inr (-1)) :: st) h
theorem q_push {n : Nat} {st : List qv} {v : qv} (h : qok n v) (hs : ∀ w ∈ st, qok n w) : ∀ w ∈ v :: st, qok n w := sorry
theorem ok_iconst {z : Int} (hd : decode M.2.1 pc = .ok (.iconst z, 1)) (hr : r32 z) (k : qI (K) (qR l D d M (pc + 1) Q)) : qI (s_ic z K) (qR l D d M pc Q) := sorry
theorem ok_bipush {z : Int} (hd : decode M.2.1 pc = .ok (.bipush z, 2)) (hr : r32 z) (hz : (Int8.ofInt z).toInt32 = Int32.ofInt z) (k : qI (K) (qR l D d M (pc + 2) Q)) : qI (s_ic z K) (qR l D d M pc Q) := sorry
theorem ok_sipush {z : Int} (hd : decode M.2.1 pc = .ok (.sipush z, 3)) (hr : r32 z) (hz : (Int16.ofInt z).toInt32 = Int32.ofInt z) (k : qI (K) (qR l D d M (pc + 3) Q)) : qI (s_ic z K) (qR l D d M pc Q) := sorry
theorem ok_ldc {z : Int} {i : Nat} (hd : decode M.2.1 pc = .ok (.ldc i, 2)) (hr : r32 z) (hw : Cond.constant M.1.cls i (Int32.ofInt z) ∈ q_G) (k : qI (K) (qR l D d M (pc + 2) Q)) : qI (s_ic z K) (qR l D d M pc Q) := sorry
theorem ok_ldcw {z : Int} {i : Nat} (hd : decode M.2.1 pc = .ok (.ldc_w i, 3)) (hr : r32 z) (hw : Cond.constant M.1.cls i (Int32.ofInt z) ∈ q_G) (k : qI (K) (qR l D d M (pc + 3) Q)) : qI (s_ic z K) (qR l D d M pc Q) := sorry
theorem ok_lconst {z : Int} {n : Fin 2} (hd : decode M.2.1 pc = .ok (.lconst n, 1)) (hr : r64 z) (hz : Int64.ofNat (n : Nat) = Int64.ofInt z) (k : qI (K) (qR l D d M (pc + 1) Q)) : qI (s_lc z K) (qR l D d M pc Q) := sorry
theorem ok_ldc2 {z : Int} {i : Nat} (hd : decode M.2.1 pc = .ok (.ldc2_w i, 3)) (hr : r64 z) (hw : Cond.constantLong M.1.cls i (Int64.ofInt z) ∈ q_G) (k : qI (K) (qR l D d M (pc + 3) Q)) : qI (s_lc z K) (qR l D d M pc Q) := sorry
theorem ok_null (hd : decode M.2.1 pc = .ok (.aconst_null, 1)) (k : qI (K) (qR l D d M (pc + 1) Q)) : qI (s_null K) (qR l D d M pc Q) := sorry
/-! locals -/
def s_iload (i : Nat) (K : qK) : qK := fun ls st h => match q_nth ls i with
  | some (.inl z) => K ls (.inl z :: st) h
  | _ => False
def s_lload (i : Nat) (K : qK) : qK := fun ls st h => match q_nth ls i with
  | some (.inr (.inl z)) => K ls (.inr (.inl z) :: st) h
  | _ => False
def s_aload (i : Nat) (K : qK) : qK := fun ls st h => match q_nth ls i with
  | some (.inr (.inr z)) => K ls (.inr (.inr z) :: st) h
  | _ => False
theorem q_ldok {n : Nat} {ls : List (Option qv)} {i : Nat} {v : qv} (h : ∀ w, some w ∈ ls → qok n w) (e : q_nth ls i = some v) : qok n v := sorry
theorem ok_iload_n {i : Nat} (j : Fin 4) (hj : (j : Nat) = i) (hd : decode M.2.1 pc = .ok (.iload_n j, 1)) (k : qI (K) (qR l D d M (pc + 1) Q)) : qI (s_iload i K) (qR l D d M pc Q) := sorry
theorem ok_iload {i : Nat} (hd : decode M.2.1 pc = .ok (.iload i, 2)) (k : qI (K) (qR l D d M (pc + 2) Q)) : qI (s_iload i K) (qR l D d M pc Q) := sorry
theorem ok_lload_n {i : Nat} (j : Fin 4) (hj : (j : Nat) = i) (hd : decode M.2.1 pc = .ok (.lload_n j, 1)) (k : qI (K) (qR l D d M (pc + 1) Q)) : qI (s_lload i K) (qR l D d M pc Q) := sorry
theorem ok_lload {i : Nat} (hd : decode M.2.1 pc = .ok (.lload i, 2)) (k : qI (K) (qR l D d M (pc + 2) Q)) : qI (s_lload i K) (qR l D d M pc Q) := sorry
theorem qrf_cases (D : qD) (z : Int) : qrf D z = .null ∨ ∃ a : Nat, qrf D z = .ref a := sorry
theorem ok_aload_n {i : Nat} (j : Fin 4) (hj : (j : Nat) = i) (hd : decode M.2.1 pc = .ok (.aload_n j, 1)) (k : qI (K) (qR l D d M (pc + 1) Q)) : qI (s_aload i K) (qR l D d M pc Q) := sorry
theorem ok_aload {i : Nat} (hd : decode M.2.1 pc = .ok (.aload i, 2)) (k : qI (K) (qR l D d M (pc + 2) Q)) : qI (s_aload i K) (qR l D d M pc Q) := sorry
end OPS
end
section
/-! ===== stores into locals, sums, turns ===== -/
section OPS2
variable {l : Launch} {D : qD} {d : qd} {M : qm} {pc : Nat} {Q : qQ} {K : qK}
theorem qR.ls {pc' : Nat} {ls ls' : List (Option qv)} {st st' : List qv} {h : qh}
    (hok : (∀ v, some v ∈ ls → qok h.1.1 v) → (∀ v ∈ st, qok h.1.1 v) → (∀ v, some v ∈ ls' → qok h.1.1 v) ∧ ∀ v ∈ st', qok h.1.1 v)
    (hs : ∀ {p : Program} {e : Env} {R : Room} {s : State} {m : MethodId} {args : Array Value} {below : List Frame} {meth : Method} {c : Code} {H : Heap} {locs : List Loc} {cells slots : Nat} {lsA : Array Slot} {Qw : State → Prop},
      q_C M p s m args meth c → lv_has lsA M.2.2.1 (qls D 0 ls) → (∀ v, some v ∈ ls → qok h.1.1 v) → (∀ v ∈ st, qok h.1.1 v) → (∀ lsB : Array Slot, lv_has lsB M.2.2.1 (qls D 0 ls') → W p l e R s m args below meth c H locs cells slots Qw (F0 m pc' lsB (st'.map (qtv D)))) → W p l e R s m args below meth c H locs cells slots Qw (F0 m pc lsA (st.map (qtv D))))
    (k : qR l D d M pc' Q ls' st' h) : qR l D d M pc Q ls st h := sorry
theorem q_tl {n : Nat} {st : List qv} {v : qv} (hs : ∀ w ∈ v :: st, qok n w) : ∀ w ∈ st, qok n w := sorry
theorem q_hd {n : Nat} {st : List qv} {v : qv} (hs : ∀ w ∈ v :: st, qok n w) : qok n v := sorry
def s_istore (i : Nat) (K : qK) : qK := fun ls st h => match st with
  | .inl z :: r => K (qst1 ls i (.inl z)) r h
  | _ => False
def s_lstore (i : Nat) (K : qK) : qK := fun ls st h => match st with
  | .inr (.inl z) :: r => K (qst2 ls i (.inr (.inl z))) r h
  | _ => False
def s_astore (i : Nat) (K : qK) : qK := fun ls st h => match st with
  | .inr (.inr z) :: r => K (qst1 ls i (.inr (.inr z))) r h
  | _ => False
def s_iinc (i : Nat) (n : Int) (K : qK) : qK := fun ls st h => match q_nth ls i with
  | some (.inl z) => r32 (z + n) ∧ K (qst1 ls i (.inl (z + n))) st h
  | _ => False
theorem ok_istore_n {i : Nat} (j : Fin 4) (hj : (j : Nat) = i) (hd : decode M.2.1 pc = .ok (.istore_n j, 1)) (hi : i < M.2.2.1) (k : qI (K) (qR l D d M (pc + 1) Q)) : qI (s_istore i K) (qR l D d M pc Q) := sorry
theorem ok_istore {i : Nat} (hd : decode M.2.1 pc = .ok (.istore i, 2)) (hi : (i : Nat) < M.2.2.1) (k : qI (K) (qR l D d M (pc + 2) Q)) : qI (s_istore i K) (qR l D d M pc Q) := sorry
theorem ok_lstore_n {i : Nat} (j : Fin 4) (hj : (j : Nat) = i) (hd : decode M.2.1 pc = .ok (.lstore_n j, 1)) (hi : i + 1 < M.2.2.1) (k : qI (K) (qR l D d M (pc + 1) Q)) : qI (s_lstore i K) (qR l D d M pc Q) := sorry
theorem ok_lstore {i : Nat} (hd : decode M.2.1 pc = .ok (.lstore i, 2)) (hi : (i : Nat) + 1 < M.2.2.1) (k : qI (K) (qR l D d M (pc + 2) Q)) : qI (s_lstore i K) (qR l D d M pc Q) := sorry
theorem ok_astore_n {i : Nat} (j : Fin 4) (hj : (j : Nat) = i) (hd : decode M.2.1 pc = .ok (.astore_n j, 1)) (hi : i < M.2.2.1) (k : qI (K) (qR l D d M (pc + 1) Q)) : qI (s_astore i K) (qR l D d M pc Q) := sorry
theorem ok_astore {i : Nat} (hd : decode M.2.1 pc = .ok (.astore i, 2)) (hi : (i : Nat) < M.2.2.1) (k : qI (K) (qR l D d M (pc + 2) Q)) : qI (s_astore i K) (qR l D d M pc Q) := sorry
theorem i32_add (x y : Int) : Int32.ofInt (x + y) = Int32.ofInt x + Int32.ofInt y := sorry
theorem i32_sub (x y : Int) : Int32.ofInt (x - y) = Int32.ofInt x - Int32.ofInt y := sorry
theorem i32_mul (x y : Int) : Int32.ofInt (x * y) = Int32.ofInt x * Int32.ofInt y := sorry
theorem i32_neg (x : Int) : Int32.ofInt (-x) = -Int32.ofInt x := sorry
theorem i32_to {x : Int} (h : r32 x) : (Int32.ofInt x).toInt = x := sorry
theorem i32_of (v : Int32) : Int32.ofInt v.toInt = v := sorry
theorem i64_to {x : Int} (h : r64 x) : (Int64.ofInt x).toInt = x := sorry
theorem i64_of (v : Int64) : Int64.ofInt v.toInt = v := sorry
theorem r32_of (v : Int32) : r32 v.toInt := sorry
theorem r64_of (v : Int64) : r64 v.toInt := sorry
theorem i32_lt {x y : Int} (hx : r32 x) (hy : r32 y) : Int32.ofInt x < Int32.ofInt y ↔ x < y := sorry
theorem i32_le {x y : Int} (hx : r32 x) (hy : r32 y) : Int32.ofInt x ≤ Int32.ofInt y ↔ x ≤ y := sorry
theorem i32_eq {x y : Int} (hx : r32 x) (hy : r32 y) : Int32.ofInt x = Int32.ofInt y ↔ x = y := sorry
theorem i64_lt {x y : Int} (hx : r64 x) (hy : r64 y) : Int64.ofInt x < Int64.ofInt y ↔ x < y := sorry
theorem i64_eq {x y : Int} (hx : r64 x) (hy : r64 y) : Int64.ofInt x = Int64.ofInt y ↔ x = y := sorry
theorem ok_iinc {i : Nat} {n : Int} (hd : decode M.2.1 pc = .ok (.iinc i n, 3)) (hi : i < M.2.2.1) (k : qI (K) (qR l D d M (pc + 3) Q)) : qI (s_iinc i n K) (qR l D d M pc Q) := sorry
def s_iadd (K : qK) : qK := fun ls st h => match st with
  | .inl y :: .inl x :: r => r32 (x + y) ∧ K ls (.inl (x + y) :: r) h
  | _ => False
def s_isub (K : qK) : qK := fun ls st h => match st with
  | .inl y :: .inl x :: r => r32 (x - y) ∧ K ls (.inl (x - y) :: r) h
  | _ => False
def s_imul (K : qK) : qK := fun ls st h => match st with
  | .inl y :: .inl x :: r => r32 (x * y) ∧ K ls (.inl (x * y) :: r) h
  | _ => False
theorem ok_iadd (hd : decode M.2.1 pc = .ok (.iadd, 1)) (k : qI (K) (qR l D d M (pc + 1) Q)) : qI (s_iadd K) (qR l D d M pc Q) := sorry
theorem ok_isub (hd : decode M.2.1 pc = .ok (.isub, 1)) (k : qI (K) (qR l D d M (pc + 1) Q)) : qI (s_isub K) (qR l D d M pc Q) := sorry
theorem ok_imul (hd : decode M.2.1 pc = .ok (.imul, 1)) (k : qI (K) (qR l D d M (pc + 1) Q)) : qI (s_imul K) (qR l D d M pc Q) := sorry
def z_iand (x y : Int) : Int := (Int32.ofInt x &&& Int32.ofInt y).toInt
def s_iand (K : qK) : qK := fun ls st h => match st with
  | .inl y :: .inl x :: r => K ls (.inl (z_iand x y) :: r) h
  | _ => False
theorem ok_iand (hd : decode M.2.1 pc = .ok (.iand, 1)) (k : qI (K) (qR l D d M (pc + 1) Q)) : qI (s_iand K) (qR l D d M pc Q) := sorry
def z_ior (x y : Int) : Int := (Int32.ofInt x ||| Int32.ofInt y).toInt
def s_ior (K : qK) : qK := fun ls st h => match st with
  | .inl y :: .inl x :: r => K ls (.inl (z_ior x y) :: r) h
  | _ => False
theorem ok_ior (hd : decode M.2.1 pc = .ok (.ior, 1)) (k : qI (K) (qR l D d M (pc + 1) Q)) : qI (s_ior K) (qR l D d M pc Q) := sorry
def z_ixor (x y : Int) : Int := (Int32.ofInt x ^^^ Int32.ofInt y).toInt
def s_ixor (K : qK) : qK := fun ls st h => match st with
  | .inl y :: .inl x :: r => K ls (.inl (z_ixor x y) :: r) h
  | _ => False
theorem ok_ixor (hd : decode M.2.1 pc = .ok (.ixor, 1)) (k : qI (K) (qR l D d M (pc + 1) Q)) : qI (s_ixor K) (qR l D d M pc Q) := sorry
def z_ishl (x y : Int) : Int := (Int32.ofInt x <<< (Int32.ofInt y &&& 31)).toInt
def s_ishl (K : qK) : qK := fun ls st h => match st with
  | .inl y :: .inl x :: r => K ls (.inl (z_ishl x y) :: r) h
  | _ => False
theorem ok_ishl (hd : decode M.2.1 pc = .ok (.ishl, 1)) (k : qI (K) (qR l D d M (pc + 1) Q)) : qI (s_ishl K) (qR l D d M pc Q) := sorry
def z_ishr (x y : Int) : Int := (Int32.ofInt x >>> (Int32.ofInt y &&& 31)).toInt
def s_ishr (K : qK) : qK := fun ls st h => match st with
  | .inl y :: .inl x :: r => K ls (.inl (z_ishr x y) :: r) h
  | _ => False
theorem ok_ishr (hd : decode M.2.1 pc = .ok (.ishr, 1)) (k : qI (K) (qR l D d M (pc + 1) Q)) : qI (s_ishr K) (qR l D d M pc Q) := sorry
def s_icmp_eq (T K : qK) : qK := fun ls st h => match st with
  | .inl y :: .inl x :: r => (x = y → T ls r h) ∧ (x ≠ y → K ls r h)
  | _ => False
def s_if_eq (T K : qK) : qK := fun ls st h => match st with
  | .inl x :: r => (x = 0 → T ls r h) ∧ (x ≠ 0 → K ls r h)
  | _ => False
def s_icmp_ne (T K : qK) : qK := fun ls st h => match st with
  | .inl y :: .inl x :: r => (x ≠ y → T ls r h) ∧ (x = y → K ls r h)
  | _ => False
def s_if_ne (T K : qK) : qK := fun ls st h => match st with
  | .inl x :: r => (x ≠ 0 → T ls r h) ∧ (x = 0 → K ls r h)
  | _ => False
def s_icmp_lt (T K : qK) : qK := fun ls st h => match st with
  | .inl y :: .inl x :: r => (x < y → T ls r h) ∧ (y ≤ x → K ls r h)
  | _ => False
def s_if_lt (T K : qK) : qK := fun ls st h => match st with
  | .inl x :: r => (x < 0 → T ls r h) ∧ (0 ≤ x → K ls r h)
  | _ => False
def s_icmp_ge (T K : qK) : qK := fun ls st h => match st with
  | .inl y :: .inl x :: r => (y ≤ x → T ls r h) ∧ (x < y → K ls r h)
  | _ => False
def s_if_ge (T K : qK) : qK := fun ls st h => match st with
  | .inl x :: r => (0 ≤ x → T ls r h) ∧ (x < 0 → K ls r h)
  | _ => False
def s_icmp_gt (T K : qK) : qK := fun ls st h => match st with
  | .inl y :: .inl x :: r => (y < x → T ls r h) ∧ (x ≤ y → K ls r h)
  | _ => False
def s_if_gt (T K : qK) : qK := fun ls st h => match st with
  | .inl x :: r => (0 < x → T ls r h) ∧ (x ≤ 0 → K ls r h)
  | _ => False
def s_icmp_le (T K : qK) : qK := fun ls st h => match st with
  | .inl y :: .inl x :: r => (x ≤ y → T ls r h) ∧ (y < x → K ls r h)
  | _ => False
def s_if_le (T K : qK) : qK := fun ls st h => match st with
  | .inl x :: r => (x ≤ 0 → T ls r h) ∧ (0 < x → K ls r h)
  | _ => False
theorem qR.br {c : Prop} {pc1 pc2 : Nat} {ls : List (Option qv)} {st st' : List qv} {h : qh}
    (hok : (∀ v ∈ st, qok h.1.1 v) → ∀ v ∈ st', qok h.1.1 v)
    (hs : ∀ {p : Program} {e : Env} {R : Room} {s : State} {m : MethodId} {args : Array Value} {below : List Frame} {meth : Method} {c0 : Code} {H : Heap} {locs : List Loc} {cells slots : Nat} {lsA : Array Slot} {Qw : State → Prop},
      q_C M p s m args meth c0 → (∀ v ∈ st, qok h.1.1 v) → (c → W p l e R s m args below meth c0 H locs cells slots Qw (F0 m pc1 lsA (st'.map (qtv D)))) → (¬ c → W p l e R s m args below meth c0 H locs cells slots Qw (F0 m pc2 lsA (st'.map (qtv D)))) → W p l e R s m args below meth c0 H locs cells slots Qw (F0 m pc lsA (st.map (qtv D))))
    (k1 : c → qR l D d M pc1 Q ls st' h) (k2 : ¬ c → qR l D d M pc2 Q ls st' h) : qR l D d M pc Q ls st h := sorry
theorem ok_icmp_eq {off : Int} {t : Nat} {T : qK} (hd : decode M.2.1 pc = .ok (.if_icmp .eq off, 3)) (ht : (pc : Int) + off = (t : Int)) (kt : qI (T) (qR l D d M t Q)) (k : qI (K) (qR l D d M (pc + 3) Q)) : qI (s_icmp_eq T K) (qR l D d M pc Q) := sorry
theorem ok_if_eq {off : Int} {t : Nat} {T : qK} (hd : decode M.2.1 pc = .ok (.ifCond .eq off, 3)) (ht : (pc : Int) + off = (t : Int)) (kt : qI (T) (qR l D d M t Q)) (k : qI (K) (qR l D d M (pc + 3) Q)) : qI (s_if_eq T K) (qR l D d M pc Q) := sorry
theorem ok_icmp_ne {off : Int} {t : Nat} {T : qK} (hd : decode M.2.1 pc = .ok (.if_icmp .ne off, 3)) (ht : (pc : Int) + off = (t : Int)) (kt : qI (T) (qR l D d M t Q)) (k : qI (K) (qR l D d M (pc + 3) Q)) : qI (s_icmp_ne T K) (qR l D d M pc Q) := sorry
theorem ok_if_ne {off : Int} {t : Nat} {T : qK} (hd : decode M.2.1 pc = .ok (.ifCond .ne off, 3)) (ht : (pc : Int) + off = (t : Int)) (kt : qI (T) (qR l D d M t Q)) (k : qI (K) (qR l D d M (pc + 3) Q)) : qI (s_if_ne T K) (qR l D d M pc Q) := sorry
theorem ok_icmp_lt {off : Int} {t : Nat} {T : qK} (hd : decode M.2.1 pc = .ok (.if_icmp .lt off, 3)) (ht : (pc : Int) + off = (t : Int)) (kt : qI (T) (qR l D d M t Q)) (k : qI (K) (qR l D d M (pc + 3) Q)) : qI (s_icmp_lt T K) (qR l D d M pc Q) := sorry
theorem ok_if_lt {off : Int} {t : Nat} {T : qK} (hd : decode M.2.1 pc = .ok (.ifCond .lt off, 3)) (ht : (pc : Int) + off = (t : Int)) (kt : qI (T) (qR l D d M t Q)) (k : qI (K) (qR l D d M (pc + 3) Q)) : qI (s_if_lt T K) (qR l D d M pc Q) := sorry
theorem ok_icmp_ge {off : Int} {t : Nat} {T : qK} (hd : decode M.2.1 pc = .ok (.if_icmp .ge off, 3)) (ht : (pc : Int) + off = (t : Int)) (kt : qI (T) (qR l D d M t Q)) (k : qI (K) (qR l D d M (pc + 3) Q)) : qI (s_icmp_ge T K) (qR l D d M pc Q) := sorry
theorem ok_if_ge {off : Int} {t : Nat} {T : qK} (hd : decode M.2.1 pc = .ok (.ifCond .ge off, 3)) (ht : (pc : Int) + off = (t : Int)) (kt : qI (T) (qR l D d M t Q)) (k : qI (K) (qR l D d M (pc + 3) Q)) : qI (s_if_ge T K) (qR l D d M pc Q) := sorry
theorem ok_icmp_gt {off : Int} {t : Nat} {T : qK} (hd : decode M.2.1 pc = .ok (.if_icmp .gt off, 3)) (ht : (pc : Int) + off = (t : Int)) (kt : qI (T) (qR l D d M t Q)) (k : qI (K) (qR l D d M (pc + 3) Q)) : qI (s_icmp_gt T K) (qR l D d M pc Q) := sorry
theorem ok_if_gt {off : Int} {t : Nat} {T : qK} (hd : decode M.2.1 pc = .ok (.ifCond .gt off, 3)) (ht : (pc : Int) + off = (t : Int)) (kt : qI (T) (qR l D d M t Q)) (k : qI (K) (qR l D d M (pc + 3) Q)) : qI (s_if_gt T K) (qR l D d M pc Q) := sorry
theorem ok_icmp_le {off : Int} {t : Nat} {T : qK} (hd : decode M.2.1 pc = .ok (.if_icmp .le off, 3)) (ht : (pc : Int) + off = (t : Int)) (kt : qI (T) (qR l D d M t Q)) (k : qI (K) (qR l D d M (pc + 3) Q)) : qI (s_icmp_le T K) (qR l D d M pc Q) := sorry
theorem ok_if_le {off : Int} {t : Nat} {T : qK} (hd : decode M.2.1 pc = .ok (.ifCond .le off, 3)) (ht : (pc : Int) + off = (t : Int)) (kt : qI (T) (qR l D d M t Q)) (k : qI (K) (qR l D d M (pc + 3) Q)) : qI (s_if_le T K) (qR l D d M pc Q) := sorry
theorem ok_goto {off : Int} {t : Nat} (hd : decode M.2.1 pc = .ok (.goto off, 3)) (ht : (pc : Int) + off = (t : Int)) (kt : qI (K) (qR l D d M t Q)) : qI (K) (qR l D d M pc Q) := sorry
/-- the end of a block: the next one begins -/
theorem ok_to : qI (qR l D d M pc Q) (qR l D d M pc Q) := sorry
end OPS2
end
section
/-! ===== fields and arrays ===== -/
def q_up (h : qh) (a k z : Int) : qh := (h.1, fun b j => if b = a ∧ j = k then z else h.2 b j)
set_option maxRecDepth 100000 in
theorem q_in {w : Cond} (h : w ∈ lw_tbl) (hk : q_ok w = true) : w ∈ q_G := sorry
set_option maxRecDepth 100000 in
theorem q_obj {D : qD} {h : qh} {H : Heap} {a ci : Nat} (hH : q_HR D h H) (ha : a < h.1.1) (hs : (q_shp a).1 = ci) (hc : ci < 100) :
    ∃ (r : vw_C) (cell : Cell), q_cl[ci]? = some r ∧ H[D.2.2.1 + a]? = some cell ∧ cell.cls = D.1.1 ci ∧ cell.vm = .none ∧ ∀ k, k < r.2.2 → cell.slots[D.1.2 ci k]? = some (qtv D (qty (q_ft ci k) (h.2 a k))) := sorry
set_option maxRecDepth 100000 in
theorem q_arr {D : qD} {h : qh} {H : Heap} {a t : Nat} (hH : q_HR D h H) (ha : a < h.1.1) (hs : (q_shp a).1 = t) (ht : 100 ≤ t) :
    H[D.2.2.1 + a]? = some (arrV (D.2.1 t) (q_shp a).2.toNat (fun j => qtv D (qty (q_ae t) (h.2 a j)))) := sorry
/-- what a class of the world is, by the tables (printed: q_lays, q_desc, q_dist) -/
def q_clok (ci : Nat) (r : vw_C) : Prop := q_cl[ci]? = some r ∧ (∀ w ∈ u_ws r.1 r.2.1 r.2.2, w ∈ q_G)
set_option maxRecDepth 100000 in
theorem q_HR.set {D : qD} {h : qh} {H H' : Heap} {a k : Nat} {z : Int} (hH : q_HR D h H) (ha : a < h.1.1) (hz : qok h.1.1 (qty (q_tp a k) z)) (hft : q_fit (q_shp a).1 z) (he : q_cell D (q_up h a k z).2 a H') (hsz : H'.size = H.size) (ho : ∀ q, q ≠ D.2.2.1 + a → H'[q]? = H[q]?) : q_HR D (q_up h a k z) H' := sorry
section HOPS
variable {l : Launch} {D : qD} {d : qd} {M : qm} {pc : Nat} {Q : qQ} {K : qK}
set_option maxRecDepth 100000 in
/-- a step that may change the heap's contents (no new cells) -/
theorem qR.hp {pc' : Nat} {ls : List (Option qv)} {st st' : List qv} {h h' : qh} (h1' : h'.1 = h.1)
    (hok : (∀ v ∈ st, qok h.1.1 v) → ∀ v ∈ st', qok h.1.1 v)
    (hs : ∀ {p : Program} {e : Env} {R : Room} {s : State} {m : MethodId} {args : Array Value} {below : List Frame} {meth : Method} {c : Code} {H : Heap} {locs : List Loc} {cells slots : Nat} {lsA : Array Slot} {Qw : State → Prop},
      q_C M p s m args meth c → q_W D s → q_HR D h H → (∀ v ∈ st, qok h.1.1 v) → va_S (q_A D) s.heap H locs → (∀ (H' : Heap) (locs' : List Loc), q_HR D h' H' → va_S (q_A D) s.heap H' locs' → W p l e R s m args below meth c H' locs' cells slots Qw (F0 m pc' lsA (st'.map (qtv D)))) → W p l e R s m args below meth c H locs cells slots Qw (F0 m pc lsA (st.map (qtv D))))
    (k : qR l D d M pc' Q ls st' h') : qR l D d M pc Q ls st h := sorry
set_option maxRecDepth 100000 in
theorem q_tvI (D : qD) (z : Int) : qtv D (qty 0 z) = .int (Int32.ofInt z) := sorry
set_option maxRecDepth 100000 in
theorem q_tvL (D : qD) (z : Int) : qtv D (qty 1 z) = .long (Int64.ofInt z) := sorry
set_option maxRecDepth 100000 in
theorem q_tvR (D : qD) (z : Int) : qtv D (qty 2 z) = qrf D z := sorry
def s_getI (ci : Nat) (k : Int) (K : qK) : qK := fun ls st h => match st with
  | .inr (.inr a) :: r => 0 ≤ a ∧ (q_shp a).1 = ci ∧ K ls (.inl (h.2 a k) :: r) h
  | _ => False
def s_getL (ci : Nat) (k : Int) (K : qK) : qK := fun ls st h => match st with
  | .inr (.inr a) :: r => 0 ≤ a ∧ (q_shp a).1 = ci ∧ K ls (.inr (.inl (h.2 a k)) :: r) h
  | _ => False
def s_getR (ci : Nat) (k : Int) (K : qK) : qK := fun ls st h => match st with
  | .inr (.inr a) :: r => 0 ≤ a ∧ (q_shp a).1 = ci ∧ K ls (.inr (.inr (h.2 a k)) :: r) h
  | _ => False
/-- the link of a field: by its class's own word, or by a nest mate's -/
def q_FL (own : String) (idx : Nat) (F : String × String × String × Bool) : Prop := Cond.fieldLink own idx F.1 F.2.1 F.2.2.1 ∈ q_G ∨ ∃ host, Cond.fieldLinkNest own idx F.1 F.2.1 F.2.2.1 host ∈ q_N
set_option maxRecDepth 100000 in
theorem q_getW {idx ci k t : Nat} {r0 : vw_C} (hcl : q_clok ci r0) (hk : k < r0.2.2) (hc : ci < 100) (hF : q_FL M.1.cls idx (r0.2.1 k)) (ht : q_ft ci k = t) (hd : decode M.2.1 pc = .ok (.getfield idx, 3))
    {ls : List (Option qv)} {a : Int} {r : List qv} {h : qh} (h0 : 0 ≤ a) (hs : (q_shp a).1 = ci) (kk : qR l D d M (pc + 3) Q ls (qty t (h.2 a k) :: r) h) : qR l D d M pc Q ls (.inr (.inr a) :: r) h := sorry
set_option maxRecDepth 100000 in
theorem ok_getI {idx ci k : Nat} {r0 : vw_C} (hcl : q_clok ci r0) (hk : k < r0.2.2) (hc : ci < 100) (hF : q_FL M.1.cls idx (r0.2.1 k)) (ht : q_ft ci k = 0) (hd : decode M.2.1 pc = .ok (.getfield idx, 3)) (kk : qI (K) (qR l D d M (pc + 3) Q)) : qI (s_getI ci k K) (qR l D d M pc Q) := sorry
set_option maxRecDepth 100000 in
theorem ok_getL {idx ci k : Nat} {r0 : vw_C} (hcl : q_clok ci r0) (hk : k < r0.2.2) (hc : ci < 100) (hF : q_FL M.1.cls idx (r0.2.1 k)) (ht : q_ft ci k = 1) (hd : decode M.2.1 pc = .ok (.getfield idx, 3)) (kk : qI (K) (qR l D d M (pc + 3) Q)) : qI (s_getL ci k K) (qR l D d M pc Q) := sorry
set_option maxRecDepth 100000 in
theorem ok_getR {idx ci k : Nat} {r0 : vw_C} (hcl : q_clok ci r0) (hk : k < r0.2.2) (hc : ci < 100) (hF : q_FL M.1.cls idx (r0.2.1 k)) (ht : q_ft ci k = 2) (hd : decode M.2.1 pc = .ok (.getfield idx, 3)) (kk : qI (K) (qR l D d M (pc + 3) Q)) : qI (s_getR ci k K) (qR l D d M pc Q) := sorry
/-! arrays: loads -/
set_option maxRecDepth 100000 in
theorem q_ix {i n : Int} (h0 : 0 ≤ i) (h1 : i < n) (hr : r32 i) : ¬ (Int32.ofInt i < 0 ∨ n.toNat ≤ (Int32.ofInt i).toNatClampNeg) ∧ (Int32.ofInt i).toNatClampNeg = i.toNat := sorry
def s_iald (K : qK) : qK := fun ls st h => match st with
  | .inl i :: .inr (.inr a) :: r => 0 ≤ a ∧ (q_shp a).1 = 100 ∧ 0 ≤ i ∧ i < (q_shp a).2 ∧ K ls (.inl (h.2 a i) :: r) h
  | _ => False
def s_bald (K : qK) : qK := fun ls st h => match st with
  | .inl i :: .inr (.inr a) :: r => 0 ≤ a ∧ ((q_shp a).1 = 101 ∨ (q_shp a).1 = 102) ∧ 0 ≤ i ∧ i < (q_shp a).2 ∧ K ls (.inl (h.2 a i) :: r) h
  | _ => False
def s_lald (K : qK) : qK := fun ls st h => match st with
  | .inl i :: .inr (.inr a) :: r => 0 ≤ a ∧ (q_shp a).1 = 103 ∧ 0 ≤ i ∧ i < (q_shp a).2 ∧ K ls (.inr (.inl (h.2 a i)) :: r) h
  | _ => False
def s_aald (K : qK) : qK := fun ls st h => match st with
  | .inl i :: .inr (.inr a) :: r => 0 ≤ a ∧ 104 ≤ (q_shp a).1 ∧ (q_shp a).1 < 107 ∧ 0 ≤ i ∧ i < (q_shp a).2 ∧ K ls (.inr (.inr (h.2 a i)) :: r) h
  | _ => False
set_option maxRecDepth 100000 in
theorem q_ald {len : Nat} {t tc : Nat} {ls : List (Option qv)} {i a : Int} {r : List qv} {h : qh} (ht : 100 ≤ t) (htc : q_ae t = tc) (h0 : 0 ≤ a) (hs : (q_shp a).1 = t) (hi0 : 0 ≤ i) (hi1 : i < (q_shp a).2)
    (hstep : ∀ {p : Program} {e : Env} {R : Room} {s : State} {m : MethodId} {args : Array Value} {below : List Frame} {meth : Method} {c : Code} {H : Heap} {locs : List Loc} {cells slots : Nat} {lsA : Array Slot} {Qw : State → Prop} {ad : Nat} {cell : Cell} {j : Int32} {v : Value} {rest : List Value},
      q_C M p s m args meth c → q_W D s → H[ad]? = some cell → s.isArrayOf cell (q_aty t) → cell.vm ≠ .unknown → ¬ (j < 0 ∨ cell.slots.size ≤ j.toNatClampNeg) → cell.slots[j.toNatClampNeg]? = some v → W p l e R s m args below meth c H locs cells slots Qw (F0 m (pc + len) lsA (v :: rest)) → W p l e R s m args below meth c H locs cells slots Qw (F0 m pc lsA (.int j :: .ref ad :: rest)))
    (ht2 : t < 107) (kk : qR l D d M (pc + len) Q ls (qty tc (h.2 a i) :: r) h) : qR l D d M pc Q ls (.inl i :: .inr (.inr a) :: r) h := sorry
set_option maxRecDepth 100000 in
theorem ok_iald (hd : decode M.2.1 pc = .ok (.iaload, 1)) (kk : qI (K) (qR l D d M (pc + 1) Q)) : qI (s_iald K) (qR l D d M pc Q) := sorry
set_option maxRecDepth 100000 in
theorem ok_bald (hd : decode M.2.1 pc = .ok (.baload, 1)) (kk : qI (K) (qR l D d M (pc + 1) Q)) : qI (s_bald K) (qR l D d M pc Q) := sorry
set_option maxRecDepth 100000 in
theorem ok_lald (hd : decode M.2.1 pc = .ok (.laload, 1)) (kk : qI (K) (qR l D d M (pc + 1) Q)) : qI (s_lald K) (qR l D d M pc Q) := sorry
set_option maxRecDepth 100000 in
theorem ok_aald (hd : decode M.2.1 pc = .ok (.aaload, 1)) (kk : qI (K) (qR l D d M (pc + 1) Q)) : qI (s_aald K) (qR l D d M pc Q) := sorry
end HOPS
end
section
/-! ===== stores into fields and arrays; ends; calls ===== -/
/-- a class's fields: their types can be read, and two of them differ by name or type -/
def q_cld (r : vw_C) : Prop := (∀ x, x < r.2.2 → (parseFieldDescriptor (r.2.1 x).2.2.1).isSome = true) ∧ ∀ x, x < r.2.2 → ∀ y, y < r.2.2 → x ≠ y → (r.2.1 x).2.1 ≠ (r.2.1 y).2.1 ∨ parseFieldDescriptor (r.2.1 x).2.2.1 ≠ parseFieldDescriptor (r.2.1 y).2.2.1
set_option maxRecDepth 100000 in
theorem q_apart {D : qD} {s : State} {args : Array Value} {ci : Nat} {r : vw_C} (hts : ∀ w ∈ q_G, w.before args s = true) (hcl : q_clok ci r) (hd : q_cld r) (hW : q_W D s) : ∀ x y, x < r.2.2 → y < r.2.2 → x ≠ y → D.1.2 ci x ≠ D.1.2 ci y := sorry
section POPS
variable {l : Launch} {D : qD} {d : qd} {M : qm} {pc : Nat} {Q : qQ} {K : qK}
def s_putI (ci : Nat) (k : Int) (K : qK) : qK := fun ls st h => match st with
  | .inl z :: .inr (.inr a) :: r => 0 ≤ a ∧ (q_shp a).1 = ci ∧ K ls r (q_up h a k z)
  | _ => False
def s_putZ (ci : Nat) (k : Int) (K : qK) : qK := fun ls st h => match st with
  | .inl z :: .inr (.inr a) :: r => 0 ≤ a ∧ (q_shp a).1 = ci ∧ (z = 0 ∨ z = 1) ∧ K ls r (q_up h a k z)
  | _ => False
def s_putL (ci : Nat) (k : Int) (K : qK) : qK := fun ls st h => match st with
  | .inr (.inl z) :: .inr (.inr a) :: r => 0 ≤ a ∧ (q_shp a).1 = ci ∧ K ls r (q_up h a k z)
  | _ => False
def s_putR (ci : Nat) (k : Int) (K : qK) : qK := fun ls st h => match st with
  | .inr (.inr z) :: .inr (.inr a) :: r => 0 ≤ a ∧ (q_shp a).1 = ci ∧ K ls r (q_up h a k z)
  | _ => False
set_option maxRecDepth 100000 in
theorem q_A_in (D : qD) (a : Nat) : q_A D (D.2.2.1 + a) := sorry
set_option maxRecDepth 100000 in
theorem q_putW {idx ci k t : Nat} {r0 : vw_C} {ty : FieldType} {z : Int} (hcl : q_clok ci r0) (hcd : q_cld r0) (hk : k < r0.2.2) (hc : ci < 100) (hF : q_FL M.1.cls idx (r0.2.1 k)) (ht : q_ft ci k = t) (hty : parseFieldDescriptor (r0.2.1 k).2.2.1 = some ty)
    (hfin : (r0.2.1 k).2.2.2 = false ∨ ((r0.2.1 k).1 = M.1.cls ∧ M.1.name = "<init>")) (hd : decode M.2.1 pc = .ok (.putfield idx, 3))
    {ls : List (Option qv)} {a : Int} {r : List qv} {h : qh} (h0 : 0 ≤ a) (hs : (q_shp a).1 = ci) (hn : ∀ D : qD, narrow ty (qtv D (qty t z)) = qtv D (qty t z)) (hfit : ∀ D : qD, fits ty (qtv D (qty t z)) = true)
    (kk : qR l D d M (pc + 3) Q ls r (q_up h a k z)) : qR l D d M pc Q ls (qty t z :: .inr (.inr a) :: r) h := sorry
set_option maxRecDepth 100000 in
theorem ok_putI {idx ci k : Nat} {r0 : vw_C} (hcl : q_clok ci r0) (hcd : q_cld r0) (hk : k < r0.2.2) (hc : ci < 100) (hF : q_FL M.1.cls idx (r0.2.1 k)) (ht : q_ft ci k = 0) (hty : parseFieldDescriptor (r0.2.1 k).2.2.1 = some .int) (hfin : (r0.2.1 k).2.2.2 = false ∨ ((r0.2.1 k).1 = M.1.cls ∧ M.1.name = "<init>")) (hd : decode M.2.1 pc = .ok (.putfield idx, 3)) (kk : qI (K) (qR l D d M (pc + 3) Q)) : qI (s_putI ci k K) (qR l D d M pc Q) := sorry
set_option maxRecDepth 100000 in
theorem ok_putZ {idx ci k : Nat} {r0 : vw_C} (hcl : q_clok ci r0) (hcd : q_cld r0) (hk : k < r0.2.2) (hc : ci < 100) (hF : q_FL M.1.cls idx (r0.2.1 k)) (ht : q_ft ci k = 0) (hty : parseFieldDescriptor (r0.2.1 k).2.2.1 = some .boolean) (hfin : (r0.2.1 k).2.2.2 = false ∨ ((r0.2.1 k).1 = M.1.cls ∧ M.1.name = "<init>")) (hd : decode M.2.1 pc = .ok (.putfield idx, 3)) (kk : qI (K) (qR l D d M (pc + 3) Q)) : qI (s_putZ ci k K) (qR l D d M pc Q) := sorry
set_option maxRecDepth 100000 in
theorem ok_putL {idx ci k : Nat} {r0 : vw_C} (hcl : q_clok ci r0) (hcd : q_cld r0) (hk : k < r0.2.2) (hc : ci < 100) (hF : q_FL M.1.cls idx (r0.2.1 k)) (ht : q_ft ci k = 1) (hty : parseFieldDescriptor (r0.2.1 k).2.2.1 = some .long) (hfin : (r0.2.1 k).2.2.2 = false ∨ ((r0.2.1 k).1 = M.1.cls ∧ M.1.name = "<init>")) (hd : decode M.2.1 pc = .ok (.putfield idx, 3)) (kk : qI (K) (qR l D d M (pc + 3) Q)) : qI (s_putL ci k K) (qR l D d M pc Q) := sorry
set_option maxRecDepth 100000 in
theorem q_nrf (ty : FieldType) (hty : (∃ n, ty = .object n) ∨ ∃ t, ty = .array t) (D : qD) (z : Int) : narrow ty (qrf D z) = qrf D z ∧ fits ty (qrf D z) = true := sorry
set_option maxRecDepth 100000 in
theorem ok_putR {idx ci k : Nat} {r0 : vw_C} {ty : FieldType} (hcl : q_clok ci r0) (hcd : q_cld r0) (hk : k < r0.2.2) (hc : ci < 100) (hF : q_FL M.1.cls idx (r0.2.1 k)) (ht : q_ft ci k = 2) (hty : parseFieldDescriptor (r0.2.1 k).2.2.1 = some ty) (hrt : (∃ n, ty = .object n) ∨ ∃ t, ty = .array t) (hfin : (r0.2.1 k).2.2.2 = false ∨ ((r0.2.1 k).1 = M.1.cls ∧ M.1.name = "<init>")) (hd : decode M.2.1 pc = .ok (.putfield idx, 3)) (kk : qI (K) (qR l D d M (pc + 3) Q)) : qI (s_putR ci k K) (qR l D d M pc Q) := sorry
/-! array stores -/
def s_iast (K : qK) : qK := fun ls st h => match st with
  | .inl z :: .inl i :: .inr (.inr a) :: r => 0 ≤ a ∧ (q_shp a).1 = 100 ∧ 0 ≤ i ∧ i < (q_shp a).2 ∧ K ls r (q_up h a i z)
  | _ => False
def s_bast (K : qK) : qK := fun ls st h => match st with
  | .inl z :: .inl i :: .inr (.inr a) :: r => 0 ≤ a ∧ (((q_shp a).1 = 101 ∧ -128 ≤ z ∧ z ≤ 127) ∨ ((q_shp a).1 = 102 ∧ (z = 0 ∨ z = 1))) ∧ 0 ≤ i ∧ i < (q_shp a).2 ∧ K ls r (q_up h a i z)
  | _ => False
def s_last (K : qK) : qK := fun ls st h => match st with
  | .inr (.inl z) :: .inl i :: .inr (.inr a) :: r => 0 ≤ a ∧ (q_shp a).1 = 103 ∧ 0 ≤ i ∧ i < (q_shp a).2 ∧ K ls r (q_up h a i z)
  | _ => False
set_option maxRecDepth 100000 in
theorem q_ast {t tc : Nat} {ls : List (Option qv)} {z i a : Int} {r : List qv} {h : qh} (hft : q_fit t z) (ht : 100 ≤ t) (ht2 : t < 107) (htc : q_ae t = tc) (h0 : 0 ≤ a) (hs : (q_shp a).1 = t) (hi0 : 0 ≤ i) (hi1 : i < (q_shp a).2)
    (hstep : ∀ {p : Program} {e : Env} {R : Room} {s : State} {m : MethodId} {args : Array Value} {below : List Frame} {meth : Method} {c : Code} {H : Heap} {locs : List Loc} {cells slots : Nat} {lsA : Array Slot} {Qw : State → Prop} {ad : Nat} {cell : Cell} {j : Int32} {rest : List Value},
      q_C M p s m args meth c → q_W D s → H[ad]? = some cell → s.isArrayOf cell (q_aty t) → cell.vm ≠ .unknown → ¬ (j < 0 ∨ cell.slots.size ≤ j.toNatClampNeg) →
      (∀ H' : Heap, H'[ad]? = some (cell.setSlot j.toNatClampNeg (qtv D (qty tc z))) → H'.size = H.size → (∀ q, q ≠ ad → H'[q]? = H[q]?) → W p l e R s m args below meth c H' (locs ++ [⟨ad, j.toNatClampNeg⟩]) cells slots Qw (F0 m (pc + 1) lsA rest)) → W p l e R s m args below meth c H locs cells slots Qw (F0 m pc lsA (qtv D (qty tc z) :: .int j :: .ref ad :: rest)))
    (kk : qR l D d M (pc + 1) Q ls r (q_up h a i z)) : qR l D d M pc Q ls (qty tc z :: .inl i :: .inr (.inr a) :: r) h := sorry
set_option maxRecDepth 100000 in
theorem ok_iast (hd : decode M.2.1 pc = .ok (.iastore, 1)) (kk : qI (K) (qR l D d M (pc + 1) Q)) : qI (s_iast K) (qR l D d M pc Q) := sorry
set_option maxRecDepth 100000 in
theorem q_nb {z : Int} (h1 : -128 ≤ z) (h2 : z ≤ 127) : narrow .byte (.int (Int32.ofInt z)) = .int (Int32.ofInt z) := sorry
set_option maxRecDepth 100000 in
theorem ok_bast (hd : decode M.2.1 pc = .ok (.bastore, 1)) (kk : qI (K) (qR l D d M (pc + 1) Q)) : qI (s_bast K) (qR l D d M pc Q) := sorry
set_option maxRecDepth 100000 in
theorem ok_last (hd : decode M.2.1 pc = .ok (.lastore, 1)) (kk : qI (K) (qR l D d M (pc + 1) Q)) : qI (s_last K) (qR l D d M pc Q) := sorry
/-! ends -/
set_option maxRecDepth 100000 in
theorem qR.end {ls : List (Option qv)} {st : List qv} {h : qh} {r : Option qv} (hok : (∀ v ∈ st, qok h.1.1 v) → ∀ v, r = some v → qok h.1.1 v) (hQ : Q r h)
    (hs : ∀ {p : Program} {e : Env} {R : Room} {s : State} {m : MethodId} {args : Array Value} {below : List Frame} {meth : Method} {c : Code} {H : Heap} {locs : List Loc} {cells slots : Nat} {lsA : Array Slot} {Qc : Array Value → State → Outcome → State → Prop} {free : Addr → Prop},
      q_C M p s m args meth c → (∀ t : State, t.heap = H → s.WarmedH t.vm → Qc args s (.returned (r.map (qtv D))) t) → (∀ q ∈ locs, free q.base) → W p l e R s m args below meth c H locs cells slots (MQ below Qc args s cells slots free) (F0 m pc lsA (st.map (qtv D)))) : qR l D d M pc Q ls st h := sorry
def s_iret (Q : qQ) : qK := fun _ st h => match st with
  | [.inl z] => Q (some (.inl z)) h
  | _ => False
def s_zret (Q : qQ) : qK := fun _ st h => match st with
  | [.inl z] => (z = 0 ∨ z = 1) ∧ Q (some (.inl z)) h
  | _ => False
def s_lret (Q : qQ) : qK := fun _ st h => match st with
  | [.inr (.inl z)] => Q (some (.inr (.inl z))) h
  | _ => False
def s_aret (Q : qQ) : qK := fun _ st h => match st with
  | [.inr (.inr z)] => Q (some (.inr (.inr z))) h
  | _ => False
def s_vret (Q : qQ) : qK := fun _ st h => match st with
  | [] => Q none h
  | _ => False
set_option maxRecDepth 100000 in
theorem ok_iret (hr : M.2.2.2 = some .int) (hd : decode M.2.1 pc = .ok (.ireturn, 1)) : qI (s_iret Q) (qR l D d M pc Q) := sorry
set_option maxRecDepth 100000 in
theorem ok_zret (hr : M.2.2.2 = some .boolean) (hd : decode M.2.1 pc = .ok (.ireturn, 1)) : qI (s_zret Q) (qR l D d M pc Q) := sorry
set_option maxRecDepth 100000 in
theorem ok_lret (hr : M.2.2.2 = some .long) (hd : decode M.2.1 pc = .ok (.lreturn, 1)) : qI (s_lret Q) (qR l D d M pc Q) := sorry
set_option maxRecDepth 100000 in
theorem ok_aret {rt : FieldType} (hr : M.2.2.2 = some rt) (hrt : (∃ n, rt = .object n) ∨ ∃ t, rt = .array t) (hd : decode M.2.1 pc = .ok (.areturn, 1)) : qI (s_aret Q) (qR l D d M pc Q) := sorry
set_option maxRecDepth 100000 in
theorem ok_vret (hr : M.2.2.2 = none) (hd : decode M.2.1 pc = .ok (.return_, 1)) : qI (s_vret Q) (qR l D d M pc Q) := sorry
end POPS
end
section
/-! ===== a method's entry; calls ===== -/
def q_ent : List qv → List (Option qv)
  | [] => []
  | .inl z :: r => some (.inl z) :: q_ent r
  | .inr (.inl z) :: r => some (.inr (.inl z)) :: none :: q_ent r
  | .inr (.inr z) :: r => some (.inr (.inr z)) :: q_ent r
theorem q_ent_len (D : qD) : ∀ as : List qv, (lg_sl (as.map (qtv D))).length = (q_ent as).length := sorry
theorem q_ent_args (D : qD) : ∀ (as : List qv) (n : Nat) (q : Nat × Value), q ∈ qls D n (q_ent as) → q ∈ lv_args n (as.map (qtv D)) := sorry
theorem qls_pad (D : qD) (k : Nat) : ∀ (ls : List (Option qv)) (n : Nat), qls D n (ls ++ List.replicate k none) = qls D n ls := sorry
theorem q_ent_ok {n : Nat} : ∀ {as : List qv}, (∀ v ∈ as, qok n v) → ∀ v, some v ∈ q_ent as → qok n v := sorry
section CALLS
variable {l : Launch} {D : qD} {d : qd} {M : qm} {pc : Nat} {Q : qQ} {K : qK}
set_option maxRecDepth 100000 in
theorem qM.of {as : List qv} {h : qh} (hp : plainName M.1.cls = true) (hlen : (q_ent as).length ≤ M.2.2.1) (h1 : d.2.1 ≤ h.1.2.1) (h2 : d.2.2 ≤ h.1.2.2)
    (k : qR l D d M 0 (fun r h' => Q r ((h'.1.1, h.1.2.1 - d.2.1, h.1.2.2 - d.2.2), h'.2)) (q_ent as ++ List.replicate (M.2.2.1 - (q_ent as).length) none) [] ((h.1.1, d.2.1, d.2.2), h.2)) : qM l D d M as h Q := sorry
theorem qM.mono {as : List qv} {h : qh} {Q' : qQ} (hQ : ∀ r h', Q r h' → Q' r h') (k : qM l D d M as h Q) : qM l D d M as h Q' := sorry
/-- the words of a callee -/
def q_code (M : qm) : Prop := Cond.code M.1 M.2.1 M.2.2.1 M.2.2.2 ∈ q_G ∧ Cond.initialized M.1.cls ∈ q_G ∧ (M.1.cls ≠ "java/lang/invoke/MethodHandle" ∧ M.1.cls ≠ "java/lang/invoke/VarHandle") ∧ M.2.2.1 ≤ 81
theorem q_ok_good {w : Cond} (h : q_ok w = true) : (w.onTables && w.keeps) = true ∨ ∃ ty, w = .arrayClass ty := sorry
theorem q_good {M' : qm} (h : q_code M') : GoodIn q_G (Cond.code M'.1 M'.2.1 M'.2.2.1 M'.2.2.2 :: q_G) := sorry
def q_cs (st : List qv) : Nat := (st.map qcat).sum
theorem q_cs_eq (D : qD) (st : List qv) : ((st.map (qtv D)).map fun v => v.category).sum = q_cs st := sorry
/-- behind a call -/
theorem q_after {d' : qd} {ls : List (Option qv)} {st rest : List qv} {h : qh} {as : List qv}
    (hrun : ∀ {p : Program} {e : Env} {R : Room} {s : State} {m : MethodId} {args : Array Value} {below : List Frame} {meth : Method} {c : Code} {H : Heap} {locs : List Loc} {cells slots : Nat} {lsA : Array Slot},
      q_C M p s m args meth c → q_W D s → q_HR D h H → (∀ v ∈ st, qok h.1.1 v) → va_S (q_A D) s.heap H locs → q_Rm d h R cells slots → lv_has lsA M.2.2.1 (qls D 0 ls) →
      va_Run p l e R s m args below meth c H locs cells slots d'.2.1 d'.2.2 (F0 m pc lsA (st.map (qtv D))) (rest.map (qtv D)) (q_P D (fun r h' => K ls (r.toList ++ rest) ((h'.1.1, h.1.2.1 - d'.2.1, h.1.2.2 - d'.2.2), h'.2)) (as.map (qtv D)).toArray) (q_A D))
    (hrest : ∀ v ∈ rest, v ∈ st) (hd1 : d'.2.1 ≤ h.1.2.1) (hd2 : d'.2.2 ≤ h.1.2.2) (k : qI (K) (qR l D d M (pc + 3) Q)) : qR l D d M pc Q ls st h := sorry
def s_invS (l : Launch) (D : qD) (d' : qd) (M' : qm) (n : Nat) (K : qK) : qK := fun ls st h =>
  n ≤ st.length ∧ q_cs (st.drop n) ≤ 8 ∧ qM l D d' M' (st.take n).reverse h (fun r h' => K ls (r.toList ++ st.drop n) h')
def s_invV (l : Launch) (D : qD) (d' : qd) (ci : Nat) (M' : qm) (n : Nat) (K : qK) : qK := fun ls st h =>
  n + 1 ≤ st.length ∧ q_cs (st.drop (n + 1)) ≤ 8 ∧ (match st.drop n with | .inr (.inr b) :: _ => 0 ≤ b ∧ (q_shp b).1 = ci | _ => False) ∧ qM l D d' M' (st.take (n + 1)).reverse h (fun r h' => K ls (r.toList ++ st.drop (n + 1)) h')
theorem q_split (st : List qv) (n : Nat) (D : qD) : st.map (qtv D) = ((st.take n).reverse.map (qtv D)).reverse ++ (st.drop n).map (qtv D) := sorry
theorem q_blind {as : List qv} {h : qh} : FrameBlind (va_Pc (as.map (qtv D)) (fun U => q_HR D h U.heap ∧ q_W D U ∧ ∀ v ∈ as, qok h.1.1 v)) := sorry
set_option maxRecDepth 100000 in
theorem ok_invS {d0 : Nat} {B : Nat × Nat} {d' : qd} {M' : qm} {idx n : Nat} (hd0 : d'.1 ≤ d0) (hc : q_code M') (hl : Cond.methodLink M.1.cls idx M'.1 ∈ q_G) (hs : Cond.static M'.1 ∈ q_G) (hn : (parseMethodDescriptor M'.1.desc).map (fun d => d.parameters.length) = some n) (hd : decode M.2.1 pc = .ok (.invokestatic idx, 3))
    (k : qI (K) (qR l D (d0 + 1, B) M (pc + 3) Q)) : qI (s_invS l D d' M' n K) (qR l D (d0 + 1, B) M pc Q) := sorry
theorem q_recv {s : State} {h : qh} {H : Heap} {b : Int} {ci : Nat} (hW : q_W D s) (hH : q_HR D h H) (hb0 : 0 ≤ b) (hb1 : b < h.1.1) (hs : (q_shp b).1 = ci) (hc : ci < 100) {r0 : vw_C} (hcl : q_cl[ci]? = some r0) :
    ∃ cellB : Cell, H[D.2.2.1 + b.toNat]? = some cellB ∧ cellB.vm.isStatics = false ∧ s.vm.findClass r0.1 = some cellB.cls := sorry
set_option maxRecDepth 100000 in
theorem ok_invV {d0 : Nat} {B : Nat × Nat} {d' : qd} {M' : qm} {idx n ci : Nat} {r0 : vw_C} (hd0 : d'.1 ≤ d0) (hcl : q_cl[ci]? = some r0) (hr : M'.1.cls = r0.1) (hci : ci < 100) (hc : q_code M') (hl : Cond.methodLink M.1.cls idx M'.1 ∈ q_G ∨ ∃ host, Cond.methodLinkNest M.1.cls idx M'.1 host ∈ q_N) (hs : Cond.instanceMethod M'.1 ∈ q_G) (hse : Cond.selects r0.1 M'.1 M'.1 ∈ q_G) (hn : (parseMethodDescriptor M'.1.desc).map (fun d => d.parameters.length) = some n) (hd : decode M.2.1 pc = .ok (.invokevirtual idx, 3))
    (k : qI (K) (qR l D (d0 + 1, B) M (pc + 3) Q)) : qI (s_invV l D d' ci M' n K) (qR l D (d0 + 1, B) M pc Q) := sorry
end CALLS
end
section
/-! ===== quotients, longs, copies on the stack, lengths, nulls, switches ===== -/
section OPS3
variable {l : Launch} {D : qD} {d : qd} {M : qm} {pc : Nat} {Q : qQ} {K : qK}
theorem i32_div {x y : Int} (hx : r32 x) (hy : r32 y) (hq : r32 (x.tdiv y)) : Int32.ofInt x / Int32.ofInt y = Int32.ofInt (x.tdiv y) := sorry
theorem i32_rem {x y : Int} (hx : r32 x) (hy : r32 y) (h0 : y ≠ 0) : Int32.ofInt x - Int32.ofInt x / Int32.ofInt y * Int32.ofInt y = Int32.ofInt (x.tmod y) ∧ r32 (x.tmod y) := sorry
def s_idiv (K : qK) : qK := fun ls st h => match st with
  | .inl y :: .inl x :: r => y ≠ 0 ∧ r32 (x.tdiv y) ∧ K ls (.inl (x.tdiv y) :: r) h
  | _ => False
def s_irem (K : qK) : qK := fun ls st h => match st with
  | .inl y :: .inl x :: r => y ≠ 0 ∧ K ls (.inl (x.tmod y) :: r) h
  | _ => False
def s_ineg (K : qK) : qK := fun ls st h => match st with
  | .inl x :: r => r32 (-x) ∧ K ls (.inl (-x) :: r) h
  | _ => False
theorem ok_idiv (hd : decode M.2.1 pc = .ok (.idiv, 1)) (k : qI (K) (qR l D d M (pc + 1) Q)) : qI (s_idiv K) (qR l D d M pc Q) := sorry
theorem ok_irem (hd : decode M.2.1 pc = .ok (.irem, 1)) (k : qI (K) (qR l D d M (pc + 1) Q)) : qI (s_irem K) (qR l D d M pc Q) := sorry
theorem ok_ineg (hd : decode M.2.1 pc = .ok (.ineg, 1)) (k : qI (K) (qR l D d M (pc + 1) Q)) : qI (s_ineg K) (qR l D d M pc Q) := sorry
/-! longs: sums wrap -/
def w64 (z : Int) : Int := (Int64.ofInt z).toInt
theorem w64_id {z : Int} (h : r64 z) : w64 z = z := sorry
theorem w64_r (z : Int) : r64 (w64 z) := sorry
theorem w64_of (z : Int) : Int64.ofInt (w64 z) = Int64.ofInt z := sorry
def s_ladd (K : qK) : qK := fun ls st h => match st with
  | .inr (.inl y) :: .inr (.inl x) :: r => K ls (.inr (.inl (w64 (x + y))) :: r) h
  | _ => False
theorem ok_ladd (hd : decode M.2.1 pc = .ok (.ladd, 1)) (k : qI (K) (qR l D d M (pc + 1) Q)) : qI (s_ladd K) (qR l D d M pc Q) := sorry
def s_lsub (K : qK) : qK := fun ls st h => match st with
  | .inr (.inl y) :: .inr (.inl x) :: r => K ls (.inr (.inl (w64 (x - y))) :: r) h
  | _ => False
theorem ok_lsub (hd : decode M.2.1 pc = .ok (.lsub, 1)) (k : qI (K) (qR l D d M (pc + 1) Q)) : qI (s_lsub K) (qR l D d M pc Q) := sorry
def s_lmul (K : qK) : qK := fun ls st h => match st with
  | .inr (.inl y) :: .inr (.inl x) :: r => K ls (.inr (.inl (w64 (x * y))) :: r) h
  | _ => False
theorem ok_lmul (hd : decode M.2.1 pc = .ok (.lmul, 1)) (k : qI (K) (qR l D d M (pc + 1) Q)) : qI (s_lmul K) (qR l D d M pc Q) := sorry
def s_lneg (K : qK) : qK := fun ls st h => match st with
  | .inr (.inl x) :: r => K ls (.inr (.inl (w64 (-x))) :: r) h
  | _ => False
theorem ok_lneg (hd : decode M.2.1 pc = .ok (.lneg, 1)) (k : qI (K) (qR l D d M (pc + 1) Q)) : qI (s_lneg K) (qR l D d M pc Q) := sorry
theorem i64_div {x y : Int} (hx : r64 x) (hy : r64 y) : Int64.ofInt x / Int64.ofInt y = Int64.ofInt (x.tdiv y) := sorry
def s_ldiv (K : qK) : qK := fun ls st h => match st with
  | .inr (.inl y) :: .inr (.inl x) :: r => y ≠ 0 ∧ K ls (.inr (.inl (w64 (x.tdiv y))) :: r) h
  | _ => False
def s_lrem (K : qK) : qK := fun ls st h => match st with
  | .inr (.inl y) :: .inr (.inl x) :: r => y ≠ 0 ∧ K ls (.inr (.inl (w64 (x.tmod y))) :: r) h
  | _ => False
theorem ok_ldiv (hd : decode M.2.1 pc = .ok (.ldiv, 1)) (k : qI (K) (qR l D d M (pc + 1) Q)) : qI (s_ldiv K) (qR l D d M pc Q) := sorry
theorem ok_lrem (hd : decode M.2.1 pc = .ok (.lrem, 1)) (k : qI (K) (qR l D d M (pc + 1) Q)) : qI (s_lrem K) (qR l D d M pc Q) := sorry
def z_lshl (x y : Int) : Int := (Int64.ofInt x <<< ((Int32.ofInt y).toInt64 &&& 63)).toInt
def z_lshr (x y : Int) : Int := (Int64.ofInt x >>> ((Int32.ofInt y).toInt64 &&& 63)).toInt
def z_lor (x y : Int) : Int := (Int64.ofInt x ||| Int64.ofInt y).toInt
def z_land (x y : Int) : Int := (Int64.ofInt x &&& Int64.ofInt y).toInt
def s_lshl (K : qK) : qK := fun ls st h => match st with
  | .inl y :: .inr (.inl x) :: r => K ls (.inr (.inl (z_lshl x y)) :: r) h
  | _ => False
theorem ok_lshl (hd : decode M.2.1 pc = .ok (.lshl, 1)) (k : qI (K) (qR l D d M (pc + 1) Q)) : qI (s_lshl K) (qR l D d M pc Q) := sorry
def s_lshr (K : qK) : qK := fun ls st h => match st with
  | .inl y :: .inr (.inl x) :: r => K ls (.inr (.inl (z_lshr x y)) :: r) h
  | _ => False
theorem ok_lshr (hd : decode M.2.1 pc = .ok (.lshr, 1)) (k : qI (K) (qR l D d M (pc + 1) Q)) : qI (s_lshr K) (qR l D d M pc Q) := sorry
def s_lor (K : qK) : qK := fun ls st h => match st with
  | .inr (.inl y) :: .inr (.inl x) :: r => K ls (.inr (.inl (z_lor x y)) :: r) h
  | _ => False
theorem ok_lor (hd : decode M.2.1 pc = .ok (.lor, 1)) (k : qI (K) (qR l D d M (pc + 1) Q)) : qI (s_lor K) (qR l D d M pc Q) := sorry
def s_land (K : qK) : qK := fun ls st h => match st with
  | .inr (.inl y) :: .inr (.inl x) :: r => K ls (.inr (.inl (z_land x y)) :: r) h
  | _ => False
theorem ok_land (hd : decode M.2.1 pc = .ok (.land, 1)) (k : qI (K) (qR l D d M (pc + 1) Q)) : qI (s_land K) (qR l D d M pc Q) := sorry
def q_lc (x y : Int) : Int := if y < x then 1 else if x = y then 0 else -1
def s_lcmp (K : qK) : qK := fun ls st h => match st with
  | .inr (.inl y) :: .inr (.inl x) :: r => K ls (.inl (q_lc x y) :: r) h
  | _ => False
theorem ok_lcmp (hd : decode M.2.1 pc = .ok (.lcmp, 1)) (k : qI (K) (qR l D d M (pc + 1) Q)) : qI (s_lcmp K) (qR l D d M pc Q) := sorry
def s_i2l (K : qK) : qK := fun ls st h => match st with
  | .inl x :: r => K ls (.inr (.inl x) :: r) h
  | _ => False
theorem ok_i2l (hd : decode M.2.1 pc = .ok (.i2l, 1)) (k : qI (K) (qR l D d M (pc + 1) Q)) : qI (s_i2l K) (qR l D d M pc Q) := sorry
def z_l2i (x : Int) : Int := (Int64.ofInt x).toInt32.toInt
theorem z_l2i_id {x : Int} (h : r32 x) : z_l2i x = x := sorry
def s_l2i (K : qK) : qK := fun ls st h => match st with
  | .inr (.inl x) :: r => K ls (.inl (z_l2i x) :: r) h
  | _ => False
theorem ok_l2i (hd : decode M.2.1 pc = .ok (.l2i, 1)) (k : qI (K) (qR l D d M (pc + 1) Q)) : qI (s_l2i K) (qR l D d M pc Q) := sorry
def z_i2b (x : Int) : Int := (Int32.ofInt x).toInt8.toInt32.toInt
def s_i2b (K : qK) : qK := fun ls st h => match st with
  | .inl x :: r => K ls (.inl (z_i2b x) :: r) h
  | _ => False
theorem z_i2b_r (x : Int) : -128 ≤ z_i2b x ∧ z_i2b x ≤ 127 := sorry
theorem ok_i2b (hd : decode M.2.1 pc = .ok (.i2b, 1)) (k : qI (K) (qR l D d M (pc + 1) Q)) : qI (s_i2b K) (qR l D d M pc Q) := sorry
/-! the stack -/
def s_dup (K : qK) : qK := fun ls st h => match st with
  | v :: r => qcat v = 1 ∧ K ls (v :: v :: r) h
  | _ => False
def s_pop (K : qK) : qK := fun ls st h => match st with
  | v :: r => qcat v = 1 ∧ K ls r h
  | _ => False
def s_dup2 (K : qK) : qK := fun ls st h => match st with
  | v :: w :: r => qcat v = 1 ∧ qcat w = 1 ∧ K ls (v :: w :: v :: w :: r) h
  | _ => False
def s_dupx1 (K : qK) : qK := fun ls st h => match st with
  | v :: w :: r => qcat v = 1 ∧ qcat w = 1 ∧ K ls (v :: w :: v :: r) h
  | _ => False
theorem ok_dup (hd : decode M.2.1 pc = .ok (.dup, 1)) (k : qI (K) (qR l D d M (pc + 1) Q)) : qI (s_dup K) (qR l D d M pc Q) := sorry
theorem ok_pop (hd : decode M.2.1 pc = .ok (.pop, 1)) (k : qI (K) (qR l D d M (pc + 1) Q)) : qI (s_pop K) (qR l D d M pc Q) := sorry
theorem ok_dup2 (hd : decode M.2.1 pc = .ok (.dup2, 1)) (k : qI (K) (qR l D d M (pc + 1) Q)) : qI (s_dup2 K) (qR l D d M pc Q) := sorry
theorem ok_dupx1 (hd : decode M.2.1 pc = .ok (.dup_x1, 1)) (k : qI (K) (qR l D d M (pc + 1) Q)) : qI (s_dupx1 K) (qR l D d M pc Q) := sorry
def s_alen (K : qK) : qK := fun ls st h => match st with
  | .inr (.inr a) :: r => 0 ≤ a ∧ 100 ≤ (q_shp a).1 ∧ (q_shp a).1 < 107 ∧ 0 ≤ (q_shp a).2 ∧ r32 (q_shp a).2 ∧ K ls (.inl (q_shp a).2 :: r) h
  | _ => False
set_option maxRecDepth 100000 in
theorem ok_alen (hd : decode M.2.1 pc = .ok (.arraylength, 1)) (k : qI (K) (qR l D d M (pc + 1) Q)) : qI (s_alen K) (qR l D d M pc Q) := sorry
def s_ifnull (T K : qK) : qK := fun ls st h => match st with
  | .inr (.inr z) :: r => (z = -1 → T ls r h) ∧ (z ≠ -1 → K ls r h)
  | _ => False
def s_ifnon (T K : qK) : qK := fun ls st h => match st with
  | .inr (.inr z) :: r => (z ≠ -1 → T ls r h) ∧ (z = -1 → K ls r h)
  | _ => False
theorem qrf_non {D : qD} {z : Int} (h : z ≠ -1) : ∃ a : Nat, qrf D z = .ref a := sorry
theorem ok_ifnull {off : Int} {t : Nat} {T : qK} (hd : decode M.2.1 pc = .ok (.ifnull off, 3)) (ht : (pc : Int) + off = (t : Int)) (kt : qI (T) (qR l D d M t Q)) (k : qI (K) (qR l D d M (pc + 3) Q)) : qI (s_ifnull T K) (qR l D d M pc Q) := sorry
theorem ok_ifnon {off : Int} {t : Nat} {T : qK} (hd : decode M.2.1 pc = .ok (.ifnonnull off, 3)) (ht : (pc : Int) + off = (t : Int)) (kt : qI (T) (qR l D d M t Q)) (k : qI (K) (qR l D d M (pc + 3) Q)) : qI (s_ifnon T K) (qR l D d M pc Q) := sorry
/-! switches: the cases one by one -/
def q_sw (x : Int) (ls : List (Option qv)) (r : List qv) (h : qh) (dflt : qK) : List (Int × qK) → Prop
  | [] => dflt ls r h
  | (z, T) :: cs => (x = z → T ls r h) ∧ (x ≠ z → q_sw x ls r h dflt cs)
def s_table (lo hi : Int) (cs : List qK) (dflt : qK) : qK := fun ls st h => match st with
  | .inl x :: r => (∀ T : qK, cs[(x - lo).toNat]? = some T → lo ≤ x → x ≤ hi → T ls r h) ∧ (x < lo ∨ hi < x → dflt ls r h)
  | _ => False
end OPS3
end
section
/-! ===== links of fields and methods, bundled ===== -/
theorem q_inI {w : Cond} (i : Nat) (h : lw_tbl[i]? = some w) (hk : q_ok w = true) : w ∈ q_G := sorry
theorem q_inN {w : Cond} (i : Nat) (h : tables_1[i]? = some w) (hk : q_isN w = true) : w ∈ q_N := sorry
def cr (i : Nat) : vw_C := ((q_fl.getD i ("", [])).1, (fun k => (q_fl.getD i ("", [])).2.getD k ("", "", "", false)), (q_fl.getD i ("", [])).2.length)
theorem cr_ok : ∀ i, i < 19 → q_cl[i]? = some (cr i) := sorry
/-- a field k of class ci, of type t, linked by own's entry idx -/
def q_gF (own : String) (idx ci k t : Nat) : Prop := q_clok ci (cr ci) ∧ k < (cr ci).2.2 ∧ ci < 100 ∧ q_FL own idx ((cr ci).2.1 k) ∧ q_ft ci k = t
def q_pF (own : String) (idx ci k t : Nat) (ty : FieldType) (ini : Bool) : Prop := q_gF own idx ci k t ∧ q_cld (cr ci) ∧ parseFieldDescriptor ((cr ci).2.1 k).2.2.1 = some ty ∧ (((cr ci).2.1 k).2.2.2 = false ∨ (((cr ci).2.1 k).1 = own ∧ ini = true))
section LNK
variable {l : Launch} {D : qD} {d : qd} {M : qm} {pc : Nat} {Q : qQ} {K : qK}
theorem og_I {idx ci k : Nat} {kz : Int} (hz : (k : Int) = kz) (g : q_gF M.1.cls idx ci k 0) (hd : decode M.2.1 pc = .ok (.getfield idx, 3)) (kk : qI (K) (qR l D d M (pc + 3) Q)) : qI (s_getI ci kz K) (qR l D d M pc Q) := sorry
theorem og_L {idx ci k : Nat} {kz : Int} (hz : (k : Int) = kz) (g : q_gF M.1.cls idx ci k 1) (hd : decode M.2.1 pc = .ok (.getfield idx, 3)) (kk : qI (K) (qR l D d M (pc + 3) Q)) : qI (s_getL ci kz K) (qR l D d M pc Q) := sorry
theorem og_R {idx ci k : Nat} {kz : Int} (hz : (k : Int) = kz) (g : q_gF M.1.cls idx ci k 2) (hd : decode M.2.1 pc = .ok (.getfield idx, 3)) (kk : qI (K) (qR l D d M (pc + 3) Q)) : qI (s_getR ci kz K) (qR l D d M pc Q) := sorry
theorem q_fin {own nm : String} {idx ci k t : Nat} {ty : FieldType} {ini : Bool} (g : q_pF own idx ci k t ty ini) (hi : ini = true → nm = "<init>") : ((cr ci).2.1 k).2.2.2 = false ∨ (((cr ci).2.1 k).1 = own ∧ nm = "<init>") := sorry
theorem op_I {idx ci k : Nat} {kz : Int} {ini : Bool} (hz : (k : Int) = kz) (g : q_pF M.1.cls idx ci k 0 .int ini) (hi : ini = true → M.1.name = "<init>") (hd : decode M.2.1 pc = .ok (.putfield idx, 3)) (kk : qI (K) (qR l D d M (pc + 3) Q)) : qI (s_putI ci kz K) (qR l D d M pc Q) := sorry
theorem op_Z {idx ci k : Nat} {kz : Int} {ini : Bool} (hz : (k : Int) = kz) (g : q_pF M.1.cls idx ci k 0 .boolean ini) (hi : ini = true → M.1.name = "<init>") (hd : decode M.2.1 pc = .ok (.putfield idx, 3)) (kk : qI (K) (qR l D d M (pc + 3) Q)) : qI (s_putZ ci kz K) (qR l D d M pc Q) := sorry
theorem op_L {idx ci k : Nat} {kz : Int} {ini : Bool} (hz : (k : Int) = kz) (g : q_pF M.1.cls idx ci k 1 .long ini) (hi : ini = true → M.1.name = "<init>") (hd : decode M.2.1 pc = .ok (.putfield idx, 3)) (kk : qI (K) (qR l D d M (pc + 3) Q)) : qI (s_putL ci kz K) (qR l D d M pc Q) := sorry
theorem op_R {idx ci k : Nat} {kz : Int} {ty : FieldType} {ini : Bool} (hz : (k : Int) = kz) (g : q_pF M.1.cls idx ci k 2 ty ini) (hrt : (∃ n, ty = .object n) ∨ ∃ t, ty = .array t) (hi : ini = true → M.1.name = "<init>") (hd : decode M.2.1 pc = .ok (.putfield idx, 3)) (kk : qI (K) (qR l D d M (pc + 3) Q)) : qI (s_putR ci kz K) (qR l D d M pc Q) := sorry
/-- a method of class ci with n parameters, linked by own's entry idx -/
def q_gV (own : String) (idx ci n : Nat) (M' : qm) : Prop := ci < 19 ∧ M'.1.cls = (cr ci).1 ∧ q_code M' ∧ (Cond.methodLink own idx M'.1 ∈ q_G ∨ ∃ host, Cond.methodLinkNest own idx M'.1 host ∈ q_N) ∧ Cond.instanceMethod M'.1 ∈ q_G ∧ Cond.selects (cr ci).1 M'.1 M'.1 ∈ q_G ∧ (parseMethodDescriptor M'.1.desc).map (fun d => d.parameters.length) = some n
def q_gS (own : String) (idx n : Nat) (M' : qm) : Prop := q_code M' ∧ Cond.methodLink own idx M'.1 ∈ q_G ∧ Cond.static M'.1 ∈ q_G ∧ (parseMethodDescriptor M'.1.desc).map (fun d => d.parameters.length) = some n
theorem oc_V {d0 : Nat} {B : Nat × Nat} {M' : qm} {idx n ci : Nat} (g : q_gV M.1.cls idx ci n M') (hd : decode M.2.1 pc = .ok (.invokevirtual idx, 3))
    (k : qI (K) (qR l D (d0 + 1, B) M (pc + 3) Q)) : qI (s_invV l D (d0, 0, 0) ci M' n K) (qR l D (d0 + 1, B) M pc Q) := sorry
theorem oc_S {d0 : Nat} {B : Nat × Nat} {M' : qm} {idx n : Nat} (g : q_gS M.1.cls idx n M') (hd : decode M.2.1 pc = .ok (.invokestatic idx, 3))
    (k : qI (K) (qR l D (d0 + 1, B) M (pc + 3) Q)) : qI (s_invS l D (d0, 0, 0) M' n K) (qR l D (d0 + 1, B) M pc Q) := sorry
end LNK
end
section
/-! ===== switches; System.arraycopy ===== -/
def q_tab (x : Int) (ls : List (Option qv)) (r : List qv) (h : qh) : Int → List qK → Prop
  | _, [] => True
  | z, T :: cs => (x = z → T ls r h) ∧ q_tab x ls r h (z + 1) cs
def s_tbl (lo hi : Int) (cs : List qK) (dflt : qK) : qK := fun ls st h => match st with
  | .inl x :: r => q_tab x ls r h lo cs ∧ (x < lo ∨ hi < x → dflt ls r h)
  | _ => False
theorem q_tab_at {x : Int} {ls : List (Option qv)} {r : List qv} {h : qh} : ∀ {cs : List qK} {lo : Int} {j : Nat} {T : qK}, q_tab x ls r h lo cs → cs[j]? = some T → x = lo + j → T ls r h := sorry
def q_cpy (h : qh) (a0 a sp dp n : Int) : qh := (h.1, fun b j => if b = a ∧ dp ≤ j ∧ j < dp + n then h.2 a0 (sp + (j - dp)) else h.2 b j)
def s_acopy (K : qK) : qK := fun ls st h => match st with
  | .inl n :: .inl dp :: .inr (.inr a) :: .inl sp :: .inr (.inr a0) :: r => 0 ≤ a0 ∧ 0 ≤ a ∧ (q_shp a0).1 = (q_shp a).1 ∧ 100 ≤ (q_shp a).1 ∧ (q_shp a).1 < 103 ∧ 0 ≤ sp ∧ 0 ≤ dp ∧ 0 ≤ n ∧ sp + n ≤ (q_shp a0).2 ∧ dp + n ≤ (q_shp a).2 ∧ q_cs r ≤ 8 ∧ K ls r (q_cpy h a0 a sp dp n)
  | _ => False
section OPS4
variable {l : Launch} {D : qD} {d : qd} {M : qm} {pc : Nat} {Q : qQ} {K : qK}
theorem ok_tbl {lo hi dflt : Int} {offs : Array Int} {len : Nat} {ts : List Nat} {td : Nat} (hd : decode M.2.1 pc = .ok (.tableswitch dflt lo hi offs, len)) (hoff : offs.toList = ts.map (fun t : Nat => (t : Int) - (pc : Int))) (hlen : hi - lo + 1 = ts.length) (htd : (pc : Int) + dflt = td) :
    qI (s_tbl lo hi (ts.map (fun t => qR l D d M t Q)) (qR l D d M td Q)) (qR l D d M pc Q) := sorry
theorem i32_nn {z : Int} (h : 0 ≤ z) (hr : r32 z) : ¬ Int32.ofInt z < 0 ∧ (Int32.ofInt z).toNatClampNeg = z.toNat := sorry
theorem q_fit_fits {t : Nat} {z : Int} (h1 : 100 ≤ t) (h2 : t < 103) (h : q_fit t z) : fits (q_aty t) (.int (Int32.ofInt z)) = true := sorry
set_option maxRecDepth 100000 in
theorem ok_acopy {idx : Nat} (hd0 : 0 < d.1) (hl : Cond.methodLink M.1.cls idx arraycopyName ∈ q_G) (hn : Cond.native arraycopyName ∈ q_G) (hs : Cond.static arraycopyName ∈ q_G) (hi : Cond.initialized "java/lang/System" ∈ q_G) (hnw : nativeFrameWords "java/lang/System" "arraycopy" 5 + 19 ≤ 100) (hd : decode M.2.1 pc = .ok (.invokestatic idx, 3)) (k : qI K (qR l D d M (pc + 3) Q)) : qI (s_acopy K) (qR l D d M pc Q) := sorry
end OPS4
end
section
/-! ===== new cells; constructors ===== -/
def nw2 (v : Int → Int → Int) (a : Int) (f : Int → Int) : Int → Int → Int := fun b j => if b = a then f j else v b j
def s_new (ci n : Nat) (K : qK) : qK := fun ls st h => q_shp h.1.1 = (ci, 0) ∧ 1 ≤ h.1.2.1 ∧ n ≤ h.1.2.2 ∧ K ls (.inr (.inr (h.1.1 : Int)) :: st) ((h.1.1 + 1, h.1.2.1 - 1, h.1.2.2 - n), nw2 h.2 h.1.1 (fun j => qdf (q_ft ci j.toNat)))
def s_newa (t : Nat) (K : qK) : qK := fun ls st h => match st with
  | .inl n :: r => 0 ≤ n ∧ n ≤ 200000 ∧ q_shp h.1.1 = (t, n) ∧ 1 ≤ h.1.2.1 ∧ n.toNat ≤ h.1.2.2 ∧ K ls (.inr (.inr (h.1.1 : Int)) :: r) ((h.1.1 + 1, h.1.2.1 - 1, h.1.2.2 - n.toNat), nw2 h.2 h.1.1 (fun _ => qdf (q_ae t)))
  | _ => False
def s_oinit (K : qK) : qK := fun ls st h => match st with
  | .inr (.inr a) :: r => 0 ≤ a ∧ q_cs r ≤ 8 ∧ K ls r h
  | _ => False
def s_invI (l : Launch) (D : qD) (d' : qd) (M' : qm) (n : Nat) (K : qK) : qK := fun ls st h =>
  n + 1 ≤ st.length ∧ q_cs (st.drop (n + 1)) ≤ 8 ∧ (match st.drop n with | .inr (.inr b) :: _ => 0 ≤ b | _ => False) ∧ qM l D d' M' (st.take (n + 1)).reverse h (fun r h' => K ls (r.toList ++ st.drop (n + 1)) h')
def s_aast (K : qK) : qK := fun ls st h => match st with
  | .inr (.inr z) :: .inl i :: .inr (.inr a) :: r => 0 ≤ a ∧ (((q_shp a).1 = 104 ∧ (q_shp z).1 = 1) ∨ ((q_shp a).1 = 105 ∧ (q_shp z).1 = 3)) ∧ 0 ≤ z ∧ 0 ≤ i ∧ i < (q_shp a).2 ∧ K ls r (q_up h a i z)
  | _ => False
def q_dv (t : Nat) : Value := if t = 0 then .int 0 else if t = 1 then .long 0 else .null
theorem q_dv_eq (D : qD) (t : Nat) : qtv D (qty t (qdf t)) = q_dv t := sorry
theorem q_df_ok (n t : Nat) : qok n (qty t (qdf t)) := sorry
theorem q_df_fit (t : Nat) : q_fit t (qdf (q_ae t)) := sorry
theorem qok_mono {n n' : Nat} (h : n ≤ n') {v : qv} (hv : qok n v) : qok n' v := sorry
set_option maxRecDepth 100000 in
theorem q_HR.new {D : qD} {h : qh} {H H' : Heap} {f : Int → Int} {rc rs : Nat} (hH : q_HR D h H) (hsz : H'.size = H.size + 1) (ho : ∀ q, q < H.size → H'[q]? = H[q]?) (hc : q_cell D (nw2 h.2 h.1.1 f) h.1.1 H') (hf : ∀ i : Nat, qok (h.1.1 + 1) (qty (q_tp h.1.1 i) (f i))) (hg : ∀ i : Nat, q_fit (q_shp h.1.1).1 (f i)) : q_HR D ((h.1.1 + 1, rc, rs), nw2 h.2 h.1.1 f) H' := sorry
section OPS5
variable {l : Launch} {D : qD} {d : qd} {M : qm} {pc : Nat} {Q : qQ} {K : qK}
theorem q_S_new {s : State} {H H' : Heap} {locs : List Loc} {n : Nat} (hs : H.size = D.2.2.1 + n) (hS : va_S (q_A D) s.heap H locs) (hsz : H'.size = H.size + 1) (ho : ∀ q, q < H.size → H'[q]? = H[q]?) : va_S (q_A D) s.heap H' locs := sorry
set_option maxRecDepth 100000 in
theorem ok_new {idx ci n : Nat} (hcl : q_clok ci (cr ci)) (hci : ci < 19) (hdv : ∀ k, k < (cr ci).2.2 → (parseFieldDescriptor ((cr ci).2.1 k).2.2.1).map defaultValue = some (q_dv (q_ft ci k))) (hl : Cond.classLink M.1.cls idx (cr ci).1 ∈ q_G) (hi : Cond.instantiable (cr ci).1 n ∈ q_G) (hini : Cond.initialized (cr ci).1 ∈ q_G) (hd : decode M.2.1 pc = .ok (.new idx, 3)) (k : qI K (qR l D d M (pc + 3) Q)) : qI (s_new ci n K) (qR l D d M pc Q) := sorry
set_option maxRecDepth 100000 in
theorem q_arrNew {D : qD} {h : qh} {H : Heap} {t : Nat} {n : Int} {rc rs : Nat} {x : Value} (hH : q_HR D h H) (h0 : 0 ≤ n) (k0 : q_shp h.1.1 = (t, n)) (ht : 100 ≤ t) (hx : x = q_dv (q_ae t)) : q_HR D ((h.1.1 + 1, rc, rs), nw2 h.2 h.1.1 (fun _ => qdf (q_ae t))) (H.push { cls := D.2.1 t, slots := Array.replicate n.toNat x, vm := .none }) := sorry
set_option maxRecDepth 100000 in
theorem ok_newa {t : Nat} {at_ : ArrayType} (ht : 100 ≤ t) (ht2 : t < 104) (hty : newarray.typeOf at_ = q_aty t) (hdv : defaultValue (q_aty t) = q_dv (q_ae t)) (hb8 : componentBytes (q_aty t) ≤ 8) (hw0 : Cond.arrayClass (q_aty t) ∈ q_G) (hra : ∀ (U : State) (cA : ClassId), va_RA U cA (q_aty t) → U.vm.findClass ("[" ++ (q_aty t).toString) = some cA) (hd : decode M.2.1 pc = .ok (.newarray at_, 2)) (k : qI K (qR l D d M (pc + 2) Q)) : qI (s_newa t K) (qR l D d M pc Q) := sorry
set_option maxRecDepth 100000 in
theorem ok_anew {t idx : Nat} {C : String} (ht : 104 ≤ t) (ht2 : t < 107) (hC0 : q_aty t = .object C) (hl : Cond.classLink M.1.cls idx C ∈ q_G) (hov : C ∈ q_aos) (hd : decode M.2.1 pc = .ok (.anewarray idx, 3)) (k : qI K (qR l D d M (pc + 3) Q)) : qI (s_newa t K) (qR l D d M pc Q) := sorry
set_option maxRecDepth 100000 in
theorem ok_oinit {idx d0 : Nat} {B : Nat × Nat} (hl : Cond.methodLink M.1.cls idx Lib.objectInit ∈ q_G) (hi : Cond.instanceMethod Lib.objectInit ∈ q_G) (hc : Cond.code Lib.objectInit ⟨#[0xb1]⟩ 1 none ∈ q_G) (hd : decode M.2.1 pc = .ok (.invokespecial idx, 3)) (k : qI K (qR l D (d0 + 1, B) M (pc + 3) Q)) : qI (s_oinit K) (qR l D (d0 + 1, B) M pc Q) := sorry
set_option maxRecDepth 100000 in
theorem ok_aast (hd : decode M.2.1 pc = .ok (.aastore, 1)) (k : qI K (qR l D d M (pc + 1) Q)) : qI (s_aast K) (qR l D d M pc Q) := sorry
/-- the link of a constructor -/
def q_gI (own : String) (idx n : Nat) (M' : qm) : Prop := q_code M' ∧ M'.2.2.2 = none ∧ M'.1.name = "<init>" ∧ (Cond.methodLink own idx M'.1 ∈ q_G ∨ ∃ host, Cond.methodLinkNest own idx M'.1 host ∈ q_N) ∧ Cond.instanceMethod M'.1 ∈ q_G ∧ (parseMethodDescriptor M'.1.desc).map (fun d => d.parameters.length) = some n
set_option maxRecDepth 100000 in
theorem oc_I {d0 : Nat} {B : Nat × Nat} {d' : qd} {M' : qm} {idx n : Nat} (hd0 : d'.1 ≤ d0) (g : q_gI M.1.cls idx n M') (hd : decode M.2.1 pc = .ok (.invokespecial idx, 3))
    (k : qI K (qR l D (d0 + 1, B) M (pc + 3) Q)) : qI (s_invI l D d' M' n K) (qR l D (d0 + 1, B) M pc Q) := sorry
end OPS5
end
section
/-! printed by gen/gcode.py: the classes by the tables -/
theorem q_lays (ws : List Cond) (js : List Nat) (h : js.map (fun j => lw_tbl[j]?) = ws.map some) (hk : ws.all q_ok = true) : ∀ w ∈ ws, w ∈ q_G := sorry
theorem clw_0 : ∀ w ∈ u_ws (cr 0).1 (cr 0).2.1 (cr 0).2.2, w ∈ q_G := sorry
theorem cls_0 : q_clok 0 (cr 0) := sorry
theorem cld_0 : q_cld (cr 0) := sorry
theorem clw_1 : ∀ w ∈ u_ws (cr 1).1 (cr 1).2.1 (cr 1).2.2, w ∈ q_G := sorry
theorem cls_1 : q_clok 1 (cr 1) := sorry
theorem cld_1 : q_cld (cr 1) := sorry
theorem clw_2 : ∀ w ∈ u_ws (cr 2).1 (cr 2).2.1 (cr 2).2.2, w ∈ q_G := sorry
theorem cls_2 : q_clok 2 (cr 2) := sorry
theorem cld_2 : q_cld (cr 2) := sorry
theorem clw_3 : ∀ w ∈ u_ws (cr 3).1 (cr 3).2.1 (cr 3).2.2, w ∈ q_G := sorry
theorem cls_3 : q_clok 3 (cr 3) := sorry
theorem cld_3 : q_cld (cr 3) := sorry
theorem clw_4 : ∀ w ∈ u_ws (cr 4).1 (cr 4).2.1 (cr 4).2.2, w ∈ q_G := sorry
theorem cls_4 : q_clok 4 (cr 4) := sorry
theorem cld_4 : q_cld (cr 4) := sorry
theorem clw_5 : ∀ w ∈ u_ws (cr 5).1 (cr 5).2.1 (cr 5).2.2, w ∈ q_G := sorry
theorem cls_5 : q_clok 5 (cr 5) := sorry
theorem cld_5 : q_cld (cr 5) := sorry
theorem clw_6 : ∀ w ∈ u_ws (cr 6).1 (cr 6).2.1 (cr 6).2.2, w ∈ q_G := sorry
theorem cls_6 : q_clok 6 (cr 6) := sorry
theorem cld_6 : q_cld (cr 6) := sorry
theorem clw_7 : ∀ w ∈ u_ws (cr 7).1 (cr 7).2.1 (cr 7).2.2, w ∈ q_G := sorry
theorem cls_7 : q_clok 7 (cr 7) := sorry
theorem cld_7 : q_cld (cr 7) := sorry
theorem clw_8 : ∀ w ∈ u_ws (cr 8).1 (cr 8).2.1 (cr 8).2.2, w ∈ q_G := sorry
theorem cls_8 : q_clok 8 (cr 8) := sorry
theorem cld_8 : q_cld (cr 8) := sorry
theorem clw_9 : ∀ w ∈ u_ws (cr 9).1 (cr 9).2.1 (cr 9).2.2, w ∈ q_G := sorry
theorem cls_9 : q_clok 9 (cr 9) := sorry
theorem cld_9 : q_cld (cr 9) := sorry
theorem clw_10 : ∀ w ∈ u_ws (cr 10).1 (cr 10).2.1 (cr 10).2.2, w ∈ q_G := sorry
theorem cls_10 : q_clok 10 (cr 10) := sorry
theorem cld_10 : q_cld (cr 10) := sorry
theorem clw_11 : ∀ w ∈ u_ws (cr 11).1 (cr 11).2.1 (cr 11).2.2, w ∈ q_G := sorry
theorem cls_11 : q_clok 11 (cr 11) := sorry
theorem cld_11 : q_cld (cr 11) := sorry
theorem clw_12 : ∀ w ∈ u_ws (cr 12).1 (cr 12).2.1 (cr 12).2.2, w ∈ q_G := sorry
theorem cls_12 : q_clok 12 (cr 12) := sorry
theorem cld_12 : q_cld (cr 12) := sorry
theorem clw_13 : ∀ w ∈ u_ws (cr 13).1 (cr 13).2.1 (cr 13).2.2, w ∈ q_G := sorry
theorem cls_13 : q_clok 13 (cr 13) := sorry
theorem cld_13 : q_cld (cr 13) := sorry
theorem clw_14 : ∀ w ∈ u_ws (cr 14).1 (cr 14).2.1 (cr 14).2.2, w ∈ q_G := sorry
theorem cls_14 : q_clok 14 (cr 14) := sorry
theorem cld_14 : q_cld (cr 14) := sorry
theorem clw_15 : ∀ w ∈ u_ws (cr 15).1 (cr 15).2.1 (cr 15).2.2, w ∈ q_G := sorry
theorem cls_15 : q_clok 15 (cr 15) := sorry
theorem cld_15 : q_cld (cr 15) := sorry
theorem clw_16 : ∀ w ∈ u_ws (cr 16).1 (cr 16).2.1 (cr 16).2.2, w ∈ q_G := sorry
theorem cls_16 : q_clok 16 (cr 16) := sorry
theorem cld_16 : q_cld (cr 16) := sorry
theorem clw_17 : ∀ w ∈ u_ws (cr 17).1 (cr 17).2.1 (cr 17).2.2, w ∈ q_G := sorry
theorem cls_17 : q_clok 17 (cr 17) := sorry
theorem cld_17 : q_cld (cr 17) := sorry
theorem clw_18 : ∀ w ∈ u_ws (cr 18).1 (cr 18).2.1 (cr 18).2.2, w ∈ q_G := sorry
theorem cls_18 : q_clok 18 (cr 18) := sorry
theorem cld_18 : q_cld (cr 18) := sorry
end
section
/-! printed by gen/gcode.py: where the words lie -/
theorem tk_1 : ∀ w ∈ tables_1_1, w ∈ tables_1 := sorry
theorem tk_2 : ∀ w ∈ tables_1_2, w ∈ tables_1 := sorry
theorem tk_3 : ∀ w ∈ tables_1_3, w ∈ tables_1 := sorry
theorem tk_4 : ∀ w ∈ tables_1_4, w ∈ tables_1 := sorry
theorem tk_5 : ∀ w ∈ tables_1_5, w ∈ tables_1 := sorry
theorem tk_6 : ∀ w ∈ tables_1_6, w ∈ tables_1 := sorry
theorem tk_7 : ∀ w ∈ tables_1_7, w ∈ tables_1 := sorry
theorem tk_8 : ∀ w ∈ tables_1_8, w ∈ tables_1 := sorry
theorem tk_9 : ∀ w ∈ tables_1_9, w ∈ tables_1 := sorry
theorem tk_10 : ∀ w ∈ tables_1_10, w ∈ tables_1 := sorry
theorem tk_11 : ∀ w ∈ tables_1_11, w ∈ tables_1 := sorry
theorem tk_12 : ∀ w ∈ tables_1_12, w ∈ tables_1 := sorry
theorem tk_13 : ∀ w ∈ tables_1_13, w ∈ tables_1 := sorry
theorem tk_14 : ∀ w ∈ tables_1_14, w ∈ tables_1 := sorry
theorem tk_15 : ∀ w ∈ tables_1_15, w ∈ tables_1 := sorry
theorem tk_16 : ∀ w ∈ tables_1_16, w ∈ tables_1 := sorry
theorem tk_17 : ∀ w ∈ tables_1_17, w ∈ tables_1 := sorry
theorem q_T {L : List Cond} (hL : ∀ w ∈ L, w ∈ tables_1) {w : Cond} (i : Nat) (h : L[i]? = some w) (hk : q_ok w = true) : w ∈ q_G := sorry
theorem q_TN {L : List Cond} (hL : ∀ w ∈ L, w ∈ tables_1) {w : Cond} (i : Nat) (h : L[i]? = some w) (hk : q_isN w = true) : w ∈ q_N := sorry
theorem pk_1 : ∀ w ∈ lw_privs_1, w ∈ lw_privs := sorry
theorem pk_2 : ∀ w ∈ lw_privs_2, w ∈ lw_privs := sorry
theorem pk_3 : ∀ w ∈ lw_privs_3, w ∈ lw_privs := sorry
theorem pk_4 : ∀ w ∈ lw_privs_4, w ∈ lw_privs := sorry
theorem pk_5 : ∀ w ∈ lw_privs_5, w ∈ lw_privs := sorry
theorem pk_6 : ∀ w ∈ lw_privs_6, w ∈ lw_privs := sorry
theorem pk_7 : ∀ w ∈ lw_privs_7, w ∈ lw_privs := sorry
theorem pk_8 : ∀ w ∈ lw_privs_8, w ∈ lw_privs := sorry
theorem pk_9 : ∀ w ∈ lw_privs_9, w ∈ lw_privs := sorry
theorem pk_10 : ∀ w ∈ lw_privs_10, w ∈ lw_privs := sorry
theorem pk_11 : ∀ w ∈ lw_privs_11, w ∈ lw_privs := sorry
theorem pk_12 : ∀ w ∈ lw_privs_12, w ∈ lw_privs := sorry
theorem pk_13 : ∀ w ∈ lw_privs_13, w ∈ lw_privs := sorry
theorem pk_14 : ∀ w ∈ lw_privs_14, w ∈ lw_privs := sorry
theorem pk_15 : ∀ w ∈ lw_privs_15, w ∈ lw_privs := sorry
theorem pk_16 : ∀ w ∈ lw_privs_16, w ∈ lw_privs := sorry
theorem pk_17 : ∀ w ∈ lw_privs_17, w ∈ lw_privs := sorry
theorem pk_18 : ∀ w ∈ lw_privs_18, w ∈ lw_privs := sorry
theorem pk_19 : ∀ w ∈ lw_privs_19, w ∈ lw_privs := sorry
theorem pk_20 : ∀ w ∈ lw_privs_20, w ∈ lw_privs := sorry
theorem pk_21 : ∀ w ∈ lw_privs_21, w ∈ lw_privs := sorry
theorem pk_22 : ∀ w ∈ lw_privs_22, w ∈ lw_privs := sorry
theorem q_Pv {L : List (MethodName × Nat)} (hL : ∀ w ∈ L, w ∈ lw_privs) {y : MethodName} {n : Nat} (i : Nat) (h : L[i]? = some (y, n)) : Cond.selects y.cls y y ∈ q_G := sorry
end
section
/-! printed by gen/gcode.py: the methods -/
def m_DH_init : qm := (⟨"DrawingHouse", "<init>", "()V"⟩, prog_1_method_3_code, 1, none)
theorem cd_DH_init : q_code m_DH_init := sorry
def m_Pl_init : qm := (⟨"DrawingHouse$Place", "<init>", "()V"⟩, prog_11_method_1_code, 1, none)
theorem cd_Pl_init : q_code m_Pl_init := sorry
def m_Dr_init : qm := (⟨"DrawingHouse$Drawing", "<init>", "()V"⟩, prog_3_method_1_code, 1, none)
theorem cd_Dr_init : q_code m_Dr_init := sorry
def m_Gr_init : qm := (⟨"DrawingHouse$Graph", "<init>", "()V"⟩, prog_5_method_1_code, 1, none)
theorem cd_Gr_init : q_code m_Gr_init := sorry
def m_Gr_clear : qm := (⟨"DrawingHouse$Graph", "clear", "()V"⟩, prog_5_method_2_code, 1, none)
theorem cd_Gr_clear : q_code m_Gr_clear := sorry
def m_GR_init : qm := (⟨"DrawingHouse$GraphReader", "<init>", "()V"⟩, prog_6_method_1_code, 1, none)
theorem cd_GR_init : q_code m_GR_init := sorry
def m_Re_init : qm := (⟨"DrawingHouse$Reader", "<init>", "()V"⟩, prog_14_method_1_code, 1, none)
theorem cd_Re_init : q_code m_Re_init := sorry
def m_Wr_init : qm := (⟨"DrawingHouse$Wrong", "<init>", "()V"⟩, prog_19_method_1_code, 1, none)
theorem cd_Wr_init : q_code m_Wr_init := sorry
def m_Sy_init : qm := (⟨"DrawingHouse$Style", "<init>", "()V"⟩, prog_17_method_1_code, 1, none)
theorem cd_Sy_init : q_code m_Sy_init := sorry
def m_Sh_init : qm := (⟨"DrawingHouse$Shape", "<init>", "()V"⟩, prog_16_method_1_code, 1, none)
theorem cd_Sh_init : q_code m_Sh_init := sorry
def m_Li_init : qm := (⟨"DrawingHouse$Likeness", "<init>", "()V"⟩, prog_10_method_1_code, 1, none)
theorem cd_Li_init : q_code m_Li_init := sorry
def m_Em_init : qm := (⟨"DrawingHouse$Embedding", "<init>", "()V"⟩, prog_4_method_1_code, 1, none)
theorem cd_Em_init : q_code m_Em_init := sorry
def m_We_init : qm := (⟨"DrawingHouse$Web", "<init>", "()V"⟩, prog_18_method_1_code, 1, none)
theorem cd_We_init : q_code m_We_init := sorry
def m_La_init : qm := (⟨"DrawingHouse$Layers", "<init>", "()V"⟩, prog_9_method_1_code, 1, none)
theorem cd_La_init : q_code m_La_init := sorry
def m_Ps_init : qm := (⟨"DrawingHouse$Places", "<init>", "()V"⟩, prog_12_method_1_code, 1, none)
theorem cd_Ps_init : q_code m_Ps_init := sorry
def m_Gd_init : qm := (⟨"DrawingHouse$Grid", "<init>", "()V"⟩, prog_7_method_1_code, 1, none)
theorem cd_Gd_init : q_code m_Gd_init := sorry
def m_Ba_init : qm := (⟨"DrawingHouse$Bars", "<init>", "()V"⟩, prog_2_method_1_code, 1, none)
theorem cd_Ba_init : q_code m_Ba_init := sorry
def m_Pn_init : qm := (⟨"DrawingHouse$Plain", "<init>", "()V"⟩, prog_13_method_1_code, 1, none)
theorem cd_Pn_init : q_code m_Pn_init := sorry
def m_Ro_init : qm := (⟨"DrawingHouse$Routes", "<init>", "()V"⟩, prog_15_method_1_code, 1, none)
theorem cd_Ro_init : q_code m_Ro_init := sorry
def m_Ju_init : qm := (⟨"DrawingHouse$Judge", "<init>", "()V"⟩, prog_8_method_1_code, 1, none)
theorem cd_Ju_init : q_code m_Ju_init := sorry
def m_DH_feed : qm := (⟨"DrawingHouse", "feed", "(IIIII)I"⟩, prog_1_method_4_code, 6, (some (.int)))
theorem cd_DH_feed : q_code m_DH_feed := sorry
def m_DH_tapeFour : qm := (⟨"DrawingHouse", "tapeFour", "(I)V"⟩, prog_1_method_5_code, 3, none)
theorem cd_DH_tapeFour : q_code m_DH_tapeFour := sorry
def m_DH_read : qm := (⟨"DrawingHouse", "read", "(II)I"⟩, prog_1_method_10_code, 4, (some (.int)))
theorem cd_DH_read : q_code m_DH_read := sorry
def m_DH_isPlace : qm := (⟨"DrawingHouse", "isPlace", "(I)Z"⟩, prog_1_method_6_code, 1, (some (.boolean)))
theorem cd_DH_isPlace : q_code m_DH_isPlace := sorry
def m_Re_take : qm := (⟨"DrawingHouse$Reader", "take", "([BI)V"⟩, prog_14_method_2_code, 3, none)
theorem cd_Re_take : q_code m_Re_take := sorry
def m_Re_next : qm := (⟨"DrawingHouse$Reader", "next", "()V"⟩, prog_14_method_9_code, 2, none)
theorem cd_Re_next : q_code m_Re_next := sorry
def m_Re_byteAt : qm := (⟨"DrawingHouse$Reader", "byteAt", "(I)I"⟩, prog_14_method_3_code, 2, (some (.int)))
theorem cd_Re_byteAt : q_code m_Re_byteAt := sorry
def m_DH_isLetter : qm := (⟨"DrawingHouse", "isLetter", "(I)Z"⟩, prog_1_method_1_code, 1, (some (.boolean)))
theorem cd_DH_isLetter : q_code m_DH_isLetter := sorry
def m_GR_isOfWord : qm := (⟨"DrawingHouse$GraphReader", "isOfWord", "(I)Z"⟩, prog_6_method_2_code, 2, (some (.boolean)))
theorem cd_GR_isOfWord : q_code m_GR_isOfWord := sorry
def m_DH_isDigit : qm := (⟨"DrawingHouse", "isDigit", "(I)Z"⟩, prog_1_method_2_code, 1, (some (.boolean)))
theorem cd_DH_isDigit : q_code m_DH_isDigit := sorry
def m_Sy_isOfWord : qm := (⟨"DrawingHouse$Style", "isOfWord", "(I)Z"⟩, prog_17_method_2_code, 2, (some (.boolean)))
theorem cd_Sy_isOfWord : q_code m_Sy_isOfWord := sorry
def m_GR_wordRoom : qm := (⟨"DrawingHouse$GraphReader", "wordRoom", "()I"⟩, prog_6_method_3_code, 1, (some (.int)))
theorem cd_GR_wordRoom : q_code m_GR_wordRoom := sorry
def m_Sy_wordRoom : qm := (⟨"DrawingHouse$Style", "wordRoom", "()I"⟩, prog_17_method_3_code, 1, (some (.int)))
theorem cd_Sy_wordRoom : q_code m_Sy_wordRoom := sorry
def m_GR_digitRoom : qm := (⟨"DrawingHouse$GraphReader", "digitRoom", "()I"⟩, prog_6_method_4_code, 1, (some (.int)))
theorem cd_GR_digitRoom : q_code m_GR_digitRoom := sorry
def m_Sy_digitRoom : qm := (⟨"DrawingHouse$Style", "digitRoom", "()I"⟩, prog_17_method_4_code, 1, (some (.int)))
theorem cd_Sy_digitRoom : q_code m_Sy_digitRoom := sorry
def m_GR_isSign : qm := (⟨"DrawingHouse$GraphReader", "isSign", "(I)Z"⟩, prog_6_method_5_code, 2, (some (.boolean)))
theorem cd_GR_isSign : q_code m_GR_isSign := sorry
def m_Sy_isSign : qm := (⟨"DrawingHouse$Style", "isSign", "(I)Z"⟩, prog_17_method_5_code, 2, (some (.boolean)))
theorem cd_Sy_isSign : q_code m_Sy_isSign := sorry
def m_GR_items : qm := (⟨"DrawingHouse$GraphReader", "items", "(I)V"⟩, prog_6_method_8_code, 2, none)
theorem cd_GR_items : q_code m_GR_items := sorry
def m_Re_is : qm := (⟨"DrawingHouse$Reader", "is", "(I)Z"⟩, prog_14_method_10_code, 2, (some (.boolean)))
theorem cd_Re_is : q_code m_Re_is := sorry
def m_Re_isThe : qm := (⟨"DrawingHouse$Reader", "isThe", "(Ljava/lang/String;)Z"⟩, prog_14_method_14_code, 3, (some (.boolean)))
theorem cd_Re_isThe : q_code m_Re_isThe := sorry
def m_String_length : qm := (⟨"java/lang/String", "length", "()I"⟩, prog_27_method_54_code, 1, (some (.int)))
theorem cd_String_length : q_code m_String_length := sorry
def m_String_charAt : qm := (⟨"java/lang/String", "charAt", "(I)C"⟩, prog_27_method_56_code, 2, (some (.char)))
theorem cd_String_charAt : q_code m_String_charAt := sorry
def m_GR_node : qm := (⟨"DrawingHouse$GraphReader", "node", "(I)V"⟩, prog_6_method_10_code, 4, none)
theorem cd_GR_node : q_code m_GR_node := sorry
def m_GR_name : qm := (⟨"DrawingHouse$GraphReader", "name", "(I)I"⟩, prog_6_method_9_code, 3, (some (.int)))
theorem cd_GR_name : q_code m_GR_name := sorry
def m_GR_isName : qm := (⟨"DrawingHouse$GraphReader", "isName", "()Z"⟩, prog_6_method_7_code, 1, (some (.boolean)))
theorem cd_GR_isName : q_code m_GR_isName := sorry
def m_Re_need : qm := (⟨"DrawingHouse$Reader", "need", "(Z)V"⟩, prog_14_method_11_code, 2, none)
theorem cd_Re_need : q_code m_Re_need := sorry
def m_Re_fails : qm := (⟨"DrawingHouse$Reader", "fails", "(II)LDrawingHouse$Wrong;"⟩, prog_14_method_4_code, 3, (some (.object "DrawingHouse$Wrong")))
theorem cd_Re_fails : q_code m_Re_fails := sorry
def m_Re_wordSize : qm := (⟨"DrawingHouse$Reader", "wordSize", "()I"⟩, prog_14_method_15_code, 1, (some (.int)))
theorem cd_Re_wordSize : q_code m_Re_wordSize := sorry
def m_Gr_find : qm := (⟨"DrawingHouse$Graph", "find", "([BII)I"⟩, prog_5_method_7_code, 7, (some (.int)))
theorem cd_Gr_find : q_code m_Gr_find := sorry
def m_Gr_addNode : qm := (⟨"DrawingHouse$Graph", "addNode", "([BIII)I"⟩, prog_5_method_8_code, 6, (some (.int)))
theorem cd_Gr_addNode : q_code m_Gr_addNode := sorry
def m_GR_of : qm := (⟨"DrawingHouse$GraphReader", "of", "(Ljava/lang/String;I)I"⟩, prog_6_method_13_code, 4, (some (.int)))
theorem cd_GR_of : q_code m_GR_of := sorry
def m_Re_must : qm := (⟨"DrawingHouse$Reader", "must", "(I)V"⟩, prog_14_method_13_code, 2, none)
theorem cd_Re_must : q_code m_Re_must := sorry
def m_Re_takes : qm := (⟨"DrawingHouse$Reader", "takes", "(I)Z"⟩, prog_14_method_12_code, 2, (some (.boolean)))
theorem cd_Re_takes : q_code m_Re_takes := sorry
def m_GR_group : qm := (⟨"DrawingHouse$GraphReader", "group", "(I)V"⟩, prog_6_method_14_code, 3, none)
theorem cd_GR_group : q_code m_GR_group := sorry
def m_Gr_deep : qm := (⟨"DrawingHouse$Graph", "deep", "(I)I"⟩, prog_5_method_13_code, 4, (some (.int)))
theorem cd_Gr_deep : q_code m_Gr_deep := sorry
def m_GR_edges : qm := (⟨"DrawingHouse$GraphReader", "edges", "(I)V"⟩, prog_6_method_11_code, 6, none)
theorem cd_GR_edges : q_code m_GR_edges := sorry
def m_GR_edge : qm := (⟨"DrawingHouse$GraphReader", "edge", "(IZI)I"⟩, prog_6_method_12_code, 6, (some (.int)))
theorem cd_GR_edge : q_code m_GR_edge := sorry
def m_Gr_between : qm := (⟨"DrawingHouse$Graph", "between", "(II)I"⟩, prog_5_method_9_code, 4, (some (.int)))
theorem cd_Gr_between : q_code m_Gr_between := sorry
def m_Gr_addEdge : qm := (⟨"DrawingHouse$Graph", "addEdge", "(IIZ)I"⟩, prog_5_method_10_code, 5, (some (.int)))
theorem cd_Gr_addEdge : q_code m_Gr_addEdge := sorry
def m_Gr_copy : qm := (⟨"DrawingHouse$Graph", "copy", "(LDrawingHouse$Graph;)V"⟩, prog_5_method_3_code, 2, none)
theorem cd_Gr_copy : q_code m_Gr_copy := sorry
def m_DH_changed : qm := (⟨"DrawingHouse", "changed", "(I)V"⟩, prog_1_method_8_code, 2, none)
theorem cd_DH_changed : q_code m_DH_changed := sorry
def m_Pl_changed : qm := (⟨"DrawingHouse$Place", "changed", "()V"⟩, prog_11_method_4_code, 2, none)
theorem cd_Pl_changed : q_code m_Pl_changed := sorry
def m_DH_graph : qm := (⟨"DrawingHouse", "graph", "(I)LDrawingHouse$Graph;"⟩, prog_1_method_7_code, 2, (some (.object "DrawingHouse$Graph")))
theorem cd_DH_graph : q_code m_DH_graph := sorry
def m_Pl_graph : qm := (⟨"DrawingHouse$Place", "graph", "()LDrawingHouse$Graph;"⟩, prog_11_method_2_code, 1, (some (.object "DrawingHouse$Graph")))
theorem cd_Pl_graph : q_code m_Pl_graph := sorry
def m_DH_fault : qm := (⟨"DrawingHouse", "fault", "(I)I"⟩, prog_1_method_11_code, 3, (some (.int)))
theorem cd_DH_fault : q_code m_DH_fault := sorry
def m_DH_count : qm := (⟨"DrawingHouse", "count", "(II)I"⟩, prog_1_method_12_code, 3, (some (.int)))
theorem cd_DH_count : q_code m_DH_count := sorry
def m_DH_shape : qm := (⟨"DrawingHouse", "shape", "(I)LDrawingHouse$Shape;"⟩, prog_1_method_9_code, 2, (some (.object "DrawingHouse$Shape")))
theorem cd_DH_shape : q_code m_DH_shape := sorry
def m_Sh_look : qm := (⟨"DrawingHouse$Shape", "look", "(LDrawingHouse$Graph;)V"⟩, prog_16_method_2_code, 3, none)
theorem cd_Sh_look : q_code m_Sh_look := sorry
def m_Gr_neighbours : qm := (⟨"DrawingHouse$Graph", "neighbours", "(I)I"⟩, prog_5_method_17_code, 4, (some (.int)))
theorem cd_Gr_neighbours : q_code m_Gr_neighbours := sorry
def m_Gr_other : qm := (⟨"DrawingHouse$Graph", "other", "(II)I"⟩, prog_5_method_16_code, 3, (some (.int)))
theorem cd_Gr_other : q_code m_Gr_other := sorry
def m_Sh_lookParts : qm := (⟨"DrawingHouse$Shape", "lookParts", "()V"⟩, prog_16_method_3_code, 5, none)
theorem cd_Sh_lookParts : q_code m_Sh_lookParts := sorry
def m_Sh_spread : qm := (⟨"DrawingHouse$Shape", "spread", "(I[I)I"⟩, prog_16_method_4_code, 7, (some (.int)))
theorem cd_Sh_spread : q_code m_Sh_spread := sorry
def m_Sh_lookBlocks : qm := (⟨"DrawingHouse$Shape", "lookBlocks", "()V"⟩, prog_16_method_5_code, 5, none)
theorem cd_Sh_lookBlocks : q_code m_Sh_lookBlocks := sorry
def m_Sh_go : qm := (⟨"DrawingHouse$Shape", "go", "(II)V"⟩, prog_16_method_6_code, 6, none)
theorem cd_Sh_go : q_code m_Sh_go := sorry
def m_Math_min_0 : qm := (⟨"java/lang/Math", "min", "(II)I"⟩, prog_25_method_69_code, 2, (some (.int)))
theorem cd_Math_min_0 : q_code m_Math_min_0 := sorry
def m_Sh_close : qm := (⟨"DrawingHouse$Shape", "close", "(I)V"⟩, prog_16_method_7_code, 2, none)
theorem cd_Sh_close : q_code m_Sh_close := sorry
def m_Sh_lookStrong : qm := (⟨"DrawingHouse$Shape", "lookStrong", "(Z)V"⟩, prog_16_method_8_code, 5, none)
theorem cd_Sh_lookStrong : q_code m_Sh_lookStrong := sorry
def m_Sh_lookCores : qm := (⟨"DrawingHouse$Shape", "lookCores", "()V"⟩, prog_16_method_9_code, 5, none)
theorem cd_Sh_lookCores : q_code m_Sh_lookCores := sorry
def m_Integer_bitCount : qm := (⟨"java/lang/Integer", "bitCount", "(I)I"⟩, prog_23_method_49_code, 1, (some (.int)))
theorem cd_Integer_bitCount : q_code m_Integer_bitCount := sorry
def m_DH_node : qm := (⟨"DrawingHouse", "node", "(III)I"⟩, prog_1_method_13_code, 4, (some (.int)))
theorem cd_DH_node : q_code m_DH_node := sorry
def m_Gr_isNode : qm := (⟨"DrawingHouse$Graph", "isNode", "(I)Z"⟩, prog_5_method_4_code, 2, (some (.boolean)))
theorem cd_Gr_isNode : q_code m_Gr_isNode := sorry
def m_Sh_blocksOf : qm := (⟨"DrawingHouse$Shape", "blocksOf", "(I)I"⟩, prog_16_method_10_code, 5, (some (.int)))
theorem cd_Sh_blocksOf : q_code m_Sh_blocksOf := sorry
def m_Long_bitCount : qm := (⟨"java/lang/Long", "bitCount", "(J)I"⟩, prog_24_method_50_code, 2, (some (.int)))
theorem cd_Long_bitCount : q_code m_Long_bitCount := sorry
def m_DH_edge : qm := (⟨"DrawingHouse", "edge", "(III)I"⟩, prog_1_method_14_code, 4, (some (.int)))
theorem cd_DH_edge : q_code m_DH_edge := sorry
def m_Gr_isEdge : qm := (⟨"DrawingHouse$Graph", "isEdge", "(I)Z"⟩, prog_5_method_5_code, 2, (some (.boolean)))
theorem cd_Gr_isEdge : q_code m_Gr_isEdge := sorry
def m_Sh_isBridge : qm := (⟨"DrawingHouse$Shape", "isBridge", "(I)Z"⟩, prog_16_method_12_code, 3, (some (.boolean)))
theorem cd_Sh_isBridge : q_code m_Sh_isBridge := sorry
def m_DH_group : qm := (⟨"DrawingHouse", "group", "(III)I"⟩, prog_1_method_15_code, 4, (some (.int)))
theorem cd_DH_group : q_code m_DH_group := sorry
def m_Gr_isGroup : qm := (⟨"DrawingHouse$Graph", "isGroup", "(I)Z"⟩, prog_5_method_6_code, 2, (some (.boolean)))
theorem cd_Gr_isGroup : q_code m_Gr_isGroup := sorry
def m_Gr_sum : qm := (⟨"DrawingHouse$Graph", "sum", "(I)I"⟩, prog_5_method_14_code, 4, (some (.int)))
theorem cd_Gr_sum : q_code m_Gr_sum := sorry
def m_Gr_isIn : qm := (⟨"DrawingHouse$Graph", "isIn", "(II)Z"⟩, prog_5_method_15_code, 4, (some (.boolean)))
theorem cd_Gr_isIn : q_code m_Gr_isIn := sorry
def m_DH_letter : qm := (⟨"DrawingHouse", "letter", "(IIII)I"⟩, prog_1_method_16_code, 6, (some (.int)))
theorem cd_DH_letter : q_code m_DH_letter := sorry
def m_DH_change : qm := (⟨"DrawingHouse", "change", "(IIII)I"⟩, prog_1_method_17_code, 8, (some (.int)))
theorem cd_DH_change : q_code m_DH_change := sorry
def m_DH_canChange : qm := (⟨"DrawingHouse", "canChange", "(LDrawingHouse$Graph;III)Z"⟩, prog_1_method_19_code, 5, (some (.boolean)))
theorem cd_DH_canChange : q_code m_DH_canChange := sorry
def m_DH_nameOf : qm := (⟨"DrawingHouse", "nameOf", "(I)I"⟩, prog_1_method_18_code, 3, (some (.int)))
theorem cd_DH_nameOf : q_code m_DH_nameOf := sorry
def m_Pl_more : qm := (⟨"DrawingHouse$Place", "more", "()LDrawingHouse$Graph;"⟩, prog_11_method_3_code, 3, (some (.object "DrawingHouse$Graph")))
theorem cd_Pl_more : q_code m_Pl_more := sorry
def m_DH_act : qm := (⟨"DrawingHouse", "act", "(LDrawingHouse$Graph;III)I"⟩, prog_1_method_20_code, 5, (some (.int)))
theorem cd_DH_act : q_code m_DH_act := sorry
def m_Gr_dropEdge : qm := (⟨"DrawingHouse$Graph", "dropEdge", "(I)V"⟩, prog_5_method_11_code, 3, none)
theorem cd_Gr_dropEdge : q_code m_Gr_dropEdge := sorry
def m_Gr_dropNode : qm := (⟨"DrawingHouse$Graph", "dropNode", "(I)V"⟩, prog_5_method_12_code, 3, none)
theorem cd_Gr_dropNode : q_code m_Gr_dropNode := sorry
def m_DH_back : qm := (⟨"DrawingHouse", "back", "(II)Z"⟩, prog_1_method_21_code, 4, (some (.boolean)))
theorem cd_DH_back : q_code m_DH_back := sorry
def m_DH_far : qm := (⟨"DrawingHouse", "far", "(III)I"⟩, prog_1_method_22_code, 4, (some (.int)))
theorem cd_DH_far : q_code m_DH_far := sorry
def m_Sh_far : qm := (⟨"DrawingHouse$Shape", "far", "(II)I"⟩, prog_16_method_13_code, 7, (some (.int)))
theorem cd_Sh_far : q_code m_Sh_far := sorry
def m_DH_same : qm := (⟨"DrawingHouse", "same", "(II)I"⟩, prog_1_method_23_code, 3, (some (.int)))
theorem cd_DH_same : q_code m_DH_same := sorry
def m_Li_look : qm := (⟨"DrawingHouse$Likeness", "look", "(LDrawingHouse$Graph;LDrawingHouse$Graph;)I"⟩, prog_10_method_3_code, 8, (some (.int)))
theorem cd_Li_look : q_code m_Li_look := sorry
def m_Li_fill : qm := (⟨"DrawingHouse$Likeness", "fill", "(LDrawingHouse$Graph;[I[I)V"⟩, prog_10_method_2_code, 6, none)
theorem cd_Li_fill : q_code m_Li_fill := sorry
def m_Li_fits : qm := (⟨"DrawingHouse$Likeness", "fits", "(II)Z"⟩, prog_10_method_4_code, 4, (some (.boolean)))
theorem cd_Li_fits : q_code m_Li_fits := sorry
def m_DH_map : qm := (⟨"DrawingHouse", "map", "(I)I"⟩, prog_1_method_24_code, 2, (some (.int)))
theorem cd_DH_map : q_code m_DH_map := sorry
def m_DH_planar : qm := (⟨"DrawingHouse", "planar", "(II)I"⟩, prog_1_method_30_code, 3, (some (.int)))
theorem cd_DH_planar : q_code m_DH_planar := sorry
def m_DH_isOuter : qm := (⟨"DrawingHouse", "isOuter", "(I)Z"⟩, prog_1_method_29_code, 9, (some (.boolean)))
theorem cd_DH_isOuter : q_code m_DH_isOuter := sorry
def m_DH_list : qm := (⟨"DrawingHouse", "list", "(LDrawingHouse$Graph;LDrawingHouse$Shape;I)V"⟩, prog_1_method_25_code, 5, none)
theorem cd_DH_list : q_code m_DH_list := sorry
def m_Em_draw : qm := (⟨"DrawingHouse$Embedding", "draw", "()Z"⟩, prog_4_method_3_code, 6, (some (.boolean)))
theorem cd_Em_draw : q_code m_Em_draw := sorry
def m_Em_ring : qm := (⟨"DrawingHouse$Embedding", "ring", "()V"⟩, prog_4_method_4_code, 7, none)
theorem cd_Em_ring : q_code m_Em_ring := sorry
def m_Em_shortest : qm := (⟨"DrawingHouse$Embedding", "shortest", "(IIII)I"⟩, prog_4_method_6_code, 12, (some (.int)))
theorem cd_Em_shortest : q_code m_Em_shortest := sorry
def m_Em_nearer : qm := (⟨"DrawingHouse$Embedding", "nearer", "(IIII)Z"⟩, prog_4_method_7_code, 6, (some (.boolean)))
theorem cd_Em_nearer : q_code m_Em_nearer := sorry
def m_Em_other : qm := (⟨"DrawingHouse$Embedding", "other", "(II)I"⟩, prog_4_method_2_code, 3, (some (.int)))
theorem cd_Em_other : q_code m_Em_other := sorry
def m_Em_take : qm := (⟨"DrawingHouse$Embedding", "take", "(II)V"⟩, prog_4_method_5_code, 5, none)
theorem cd_Em_take : q_code m_Em_take := sorry
def m_Em_lookPieces : qm := (⟨"DrawingHouse$Embedding", "lookPieces", "()Z"⟩, prog_4_method_8_code, 3, (some (.boolean)))
theorem cd_Em_lookPieces : q_code m_Em_lookPieces := sorry
def m_Em_gather : qm := (⟨"DrawingHouse$Embedding", "gather", "(I)V"⟩, prog_4_method_9_code, 7, none)
theorem cd_Em_gather : q_code m_Em_gather := sorry
def m_Integer_numberOfTrailingZeros : qm := (⟨"java/lang/Integer", "numberOfTrailingZeros", "(I)I"⟩, prog_23_method_48_code, 2, (some (.int)))
theorem cd_Integer_numberOfTrailingZeros : q_code m_Integer_numberOfTrailingZeros := sorry
def m_Em_wayOf : qm := (⟨"DrawingHouse$Embedding", "wayOf", "(II)I"⟩, prog_4_method_10_code, 3, (some (.int)))
theorem cd_Em_wayOf : q_code m_Em_wayOf := sorry
def m_Em_split : qm := (⟨"DrawingHouse$Embedding", "split", "(III)V"⟩, prog_4_method_11_code, 11, none)
theorem cd_Em_split : q_code m_Em_split := sorry
def m_Em_setOf : qm := (⟨"DrawingHouse$Embedding", "setOf", "(I)I"⟩, prog_4_method_12_code, 4, (some (.int)))
theorem cd_Em_setOf : q_code m_Em_setOf := sorry
def m_DH_plan : qm := (⟨"DrawingHouse", "plan", "(I)V"⟩, prog_1_method_27_code, 5, none)
theorem cd_DH_plan : q_code m_DH_plan := sorry
def m_Em_tell : qm := (⟨"DrawingHouse$Embedding", "tell", "(LDrawingHouse$Web;)V"⟩, prog_4_method_13_code, 6, none)
theorem cd_Em_tell : q_code m_Em_tell := sorry
def m_Em_around : qm := (⟨"DrawingHouse$Embedding", "around", "(LDrawingHouse$Web;II)V"⟩, prog_4_method_14_code, 6, none)
theorem cd_Em_around : q_code m_Em_around := sorry
def m_Em_edgeBetween : qm := (⟨"DrawingHouse$Embedding", "edgeBetween", "(II)I"⟩, prog_4_method_15_code, 4, (some (.int)))
theorem cd_Em_edgeBetween : q_code m_Em_edgeBetween := sorry
def m_We_insert : qm := (⟨"DrawingHouse$Web", "insert", "(III)V"⟩, prog_18_method_3_code, 5, none)
theorem cd_We_insert : q_code m_We_insert := sorry
def m_We_look : qm := (⟨"DrawingHouse$Web", "look", "()V"⟩, prog_18_method_6_code, 2, none)
theorem cd_We_look : q_code m_We_look := sorry
def m_We_walk : qm := (⟨"DrawingHouse$Web", "walk", "(II)V"⟩, prog_18_method_7_code, 6, none)
theorem cd_We_walk : q_code m_We_walk := sorry
def m_We_other : qm := (⟨"DrawingHouse$Web", "other", "(II)I"⟩, prog_18_method_4_code, 3, (some (.int)))
theorem cd_We_other : q_code m_We_other := sorry
def m_We_behind : qm := (⟨"DrawingHouse$Web", "behind", "(II)I"⟩, prog_18_method_5_code, 3, (some (.int)))
theorem cd_We_behind : q_code m_We_behind := sorry
def m_We_placeOf : qm := (⟨"DrawingHouse$Web", "placeOf", "(II)I"⟩, prog_18_method_2_code, 4, (some (.int)))
theorem cd_We_placeOf : q_code m_We_placeOf := sorry
def m_DH_bar : qm := (⟨"DrawingHouse", "bar", "(LDrawingHouse$Graph;)V"⟩, prog_1_method_28_code, 6, none)
theorem cd_DH_bar : q_code m_DH_bar := sorry
def m_DH_isPlanar : qm := (⟨"DrawingHouse", "isPlanar", "(LDrawingHouse$Graph;LDrawingHouse$Shape;)Z"⟩, prog_1_method_26_code, 4, (some (.boolean)))
theorem cd_DH_isPlanar : q_code m_DH_isPlanar := sorry
def m_DH_turn : qm := (⟨"DrawingHouse", "turn", "(IIII)I"⟩, prog_1_method_31_code, 5, (some (.int)))
theorem cd_DH_turn : q_code m_DH_turn := sorry
def m_DH_draw : qm := (⟨"DrawingHouse", "draw", "(III)I"⟩, prog_1_method_32_code, 6, (some (.int)))
theorem cd_DH_draw : q_code m_DH_draw := sorry
def m_DH_lay : qm := (⟨"DrawingHouse", "lay", "(ILDrawingHouse$Graph;II)I"⟩, prog_1_method_33_code, 6, (some (.int)))
theorem cd_DH_lay : q_code m_DH_lay := sorry
def m_La_draw : qm := (⟨"DrawingHouse$Layers", "draw", "(LDrawingHouse$Graph;LDrawingHouse$Shape;LDrawingHouse$Drawing;)Z"⟩, prog_9_method_10_code, 6, (some (.boolean)))
theorem cd_La_draw : q_code m_La_draw := sorry
def m_La_turn : qm := (⟨"DrawingHouse$Layers", "turn", "(LDrawingHouse$Graph;LDrawingHouse$Shape;[Z)V"⟩, prog_9_method_4_code, 9, none)
theorem cd_La_turn : q_code m_La_turn := sorry
def m_La_exact : qm := (⟨"DrawingHouse$Layers", "exact", "(II)V"⟩, prog_9_method_7_code, 8, none)
theorem cd_La_exact : q_code m_La_exact := sorry
def m_La_with : qm := (⟨"DrawingHouse$Layers", "with", "([IIII)I"⟩, prog_9_method_8_code, 8, (some (.int)))
theorem cd_La_with : q_code m_La_with := sorry
def m_La_into : qm := (⟨"DrawingHouse$Layers", "into", "(II)I"⟩, prog_9_method_5_code, 5, (some (.int)))
theorem cd_La_into : q_code m_La_into := sorry
def m_La_greedy : qm := (⟨"DrawingHouse$Layers", "greedy", "(I)V"⟩, prog_9_method_9_code, 9, none)
theorem cd_La_greedy : q_code m_La_greedy := sorry
def m_La_outOf : qm := (⟨"DrawingHouse$Layers", "outOf", "(II)I"⟩, prog_9_method_6_code, 5, (some (.int)))
theorem cd_La_outOf : q_code m_La_outOf := sorry
def m_Ps_clear : qm := (⟨"DrawingHouse$Places", "clear", "(I)V"⟩, prog_12_method_2_code, 2, none)
theorem cd_Ps_clear : q_code m_Ps_clear := sorry
def m_La_from : qm := (⟨"DrawingHouse$Layers", "from", "(I)I"⟩, prog_9_method_2_code, 2, (some (.int)))
theorem cd_La_from : q_code m_La_from := sorry
def m_La_to : qm := (⟨"DrawingHouse$Layers", "to", "(I)I"⟩, prog_9_method_3_code, 2, (some (.int)))
theorem cd_La_to : q_code m_La_to := sorry
def m_Ps_pair : qm := (⟨"DrawingHouse$Places", "pair", "(IIII)V"⟩, prog_12_method_3_code, 5, none)
theorem cd_Ps_pair : q_code m_Ps_pair := sorry
def m_Ps_solve : qm := (⟨"DrawingHouse$Places", "solve", "()V"⟩, prog_12_method_4_code, 4, none)
theorem cd_Ps_solve : q_code m_Ps_solve := sorry
def m_Ps_turnOne : qm := (⟨"DrawingHouse$Places", "turnOne", "()Z"⟩, prog_12_method_5_code, 4, (some (.boolean)))
theorem cd_Ps_turnOne : q_code m_Ps_turnOne := sorry
def m_Ps_turnRound : qm := (⟨"DrawingHouse$Places", "turnRound", "(I)V"⟩, prog_12_method_7_code, 6, none)
theorem cd_Ps_turnRound : q_code m_Ps_turnRound := sorry
def m_Ps_ahead : qm := (⟨"DrawingHouse$Places", "ahead", "(I)I"⟩, prog_12_method_6_code, 3, (some (.int)))
theorem cd_Ps_ahead : q_code m_Ps_ahead := sorry
def m_Math_max_0 : qm := (⟨"java/lang/Math", "max", "(II)I"⟩, prog_25_method_65_code, 2, (some (.int)))
theorem cd_Math_max_0 : q_code m_Math_max_0 := sorry
def m_La_joints : qm := (⟨"DrawingHouse$Layers", "joints", "(II)V"⟩, prog_9_method_11_code, 6, none)
theorem cd_La_joints : q_code m_La_joints := sorry
def m_La_list : qm := (⟨"DrawingHouse$Layers", "list", "()V"⟩, prog_9_method_12_code, 4, none)
theorem cd_La_list : q_code m_La_list := sorry
def m_La_crossLeast : qm := (⟨"DrawingHouse$Layers", "crossLeast", "()V"⟩, prog_9_method_16_code, 5, none)
theorem cd_La_crossLeast : q_code m_La_crossLeast := sorry
def m_La_ordersOf : qm := (⟨"DrawingHouse$Layers", "ordersOf", "(I)I"⟩, prog_9_method_15_code, 10, (some (.int)))
theorem cd_La_ordersOf : q_code m_La_ordersOf := sorry
def m_La_meet : qm := (⟨"DrawingHouse$Layers", "meet", "(III)V"⟩, prog_9_method_18_code, 9, none)
theorem cd_La_meet : q_code m_La_meet := sorry
def m_La_placeIn : qm := (⟨"DrawingHouse$Layers", "placeIn", "(III)I"⟩, prog_9_method_17_code, 9, (some (.int)))
theorem cd_La_placeIn : q_code m_La_placeIn := sorry
def m_La_listed : qm := (⟨"DrawingHouse$Layers", "listed", "(I)I"⟩, prog_9_method_19_code, 3, (some (.int)))
theorem cd_La_listed : q_code m_La_listed := sorry
def m_La_choose : qm := (⟨"DrawingHouse$Layers", "choose", "()V"⟩, prog_9_method_20_code, 6, none)
theorem cd_La_choose : q_code m_La_choose := sorry
def m_La_sweep : qm := (⟨"DrawingHouse$Layers", "sweep", "()V"⟩, prog_9_method_21_code, 4, none)
theorem cd_La_sweep : q_code m_La_sweep := sorry
def m_La_crossings : qm := (⟨"DrawingHouse$Layers", "crossings", "()I"⟩, prog_9_method_14_code, 6, (some (.int)))
theorem cd_La_crossings : q_code m_La_crossings := sorry
def m_La_number : qm := (⟨"DrawingHouse$Layers", "number", "()V"⟩, prog_9_method_13_code, 3, none)
theorem cd_La_number : q_code m_La_number := sorry
def m_La_sort : qm := (⟨"DrawingHouse$Layers", "sort", "(IZ)V"⟩, prog_9_method_22_code, 6, none)
theorem cd_La_sort : q_code m_La_sort := sorry
def m_La_tell : qm := (⟨"DrawingHouse$Layers", "tell", "()V"⟩, prog_9_method_24_code, 5, none)
theorem cd_La_tell : q_code m_La_tell := sorry
def m_La_half : qm := (⟨"DrawingHouse$Layers", "half", "(I)I"⟩, prog_9_method_23_code, 2, (some (.int)))
theorem cd_La_half : q_code m_La_half := sorry
def m_Dr_clear : qm := (⟨"DrawingHouse$Drawing", "clear", "()V"⟩, prog_3_method_3_code, 2, none)
theorem cd_Dr_clear : q_code m_Dr_clear := sorry
def m_Dr_bend : qm := (⟨"DrawingHouse$Drawing", "bend", "(III)V"⟩, prog_3_method_4_code, 4, none)
theorem cd_Dr_bend : q_code m_Dr_bend := sorry
def m_DH_grid : qm := (⟨"DrawingHouse", "grid", "(ILDrawingHouse$Graph;LDrawingHouse$Shape;)I"⟩, prog_1_method_34_code, 7, (some (.int)))
theorem cd_DH_grid : q_code m_DH_grid := sorry
def m_Gd_draw : qm := (⟨"DrawingHouse$Grid", "draw", "(LDrawingHouse$Web;LDrawingHouse$Drawing;)V"⟩, prog_7_method_13_code, 5, none)
theorem cd_Gd_draw : q_code m_Gd_draw := sorry
def m_Gd_fill : qm := (⟨"DrawingHouse$Grid", "fill", "(LDrawingHouse$Web;)V"⟩, prog_7_method_2_code, 3, none)
theorem cd_Gd_fill : q_code m_Gd_fill := sorry
def m_Gd_put : qm := (⟨"DrawingHouse$Grid", "put", "(LDrawingHouse$Web;I)V"⟩, prog_7_method_4_code, 11, none)
theorem cd_Gd_put : q_code m_Gd_put := sorry
def m_Gd_fits : qm := (⟨"DrawingHouse$Grid", "fits", "(LDrawingHouse$Web;II)Z"⟩, prog_7_method_5_code, 3, (some (.boolean)))
theorem cd_Gd_fits : q_code m_Gd_fits := sorry
def m_Gd_areJoined : qm := (⟨"DrawingHouse$Grid", "areJoined", "(LDrawingHouse$Web;II)Z"⟩, prog_7_method_3_code, 4, (some (.boolean)))
theorem cd_Gd_areJoined : q_code m_Gd_areJoined := sorry
def m_We_edgeOf : qm := (⟨"DrawingHouse$Web", "edgeOf", "(II)I"⟩, prog_18_method_8_code, 7, (some (.int)))
theorem cd_We_edgeOf : q_code m_We_edgeOf := sorry
def m_Gd_peel : qm := (⟨"DrawingHouse$Grid", "peel", "(LDrawingHouse$Web;)V"⟩, prog_7_method_7_code, 10, none)
theorem cd_Gd_peel : q_code m_Gd_peel := sorry
def m_Gd_bits : qm := (⟨"DrawingHouse$Grid", "bits", "(LDrawingHouse$Web;I)I"⟩, prog_7_method_6_code, 4, (some (.int)))
theorem cd_Gd_bits : q_code m_Gd_bits := sorry
def m_Gd_take : qm := (⟨"DrawingHouse$Grid", "take", "(LDrawingHouse$Web;II)V"⟩, prog_7_method_8_code, 12, none)
theorem cd_Gd_take : q_code m_Gd_take := sorry
def m_Gd_isInner : qm := (⟨"DrawingHouse$Grid", "isInner", "(LDrawingHouse$Web;IIIII)Z"⟩, prog_7_method_9_code, 11, (some (.boolean)))
theorem cd_Gd_isInner : q_code m_Gd_isInner := sorry
def m_Gd_shift : qm := (⟨"DrawingHouse$Grid", "shift", "(LDrawingHouse$Web;)V"⟩, prog_7_method_10_code, 12, none)
theorem cd_Gd_shift : q_code m_Gd_shift := sorry
def m_Gd_set : qm := (⟨"DrawingHouse$Grid", "set", "(III)V"⟩, prog_7_method_11_code, 4, none)
theorem cd_Gd_set : q_code m_Gd_set := sorry
def m_Gd_move : qm := (⟨"DrawingHouse$Grid", "move", "(II)V"⟩, prog_7_method_12_code, 4, none)
theorem cd_Gd_move : q_code m_Gd_move := sorry
def m_Ba_draw : qm := (⟨"DrawingHouse$Bars", "draw", "(LDrawingHouse$Web;LDrawingHouse$Drawing;)V"⟩, prog_2_method_9_code, 9, none)
theorem cd_Ba_draw : q_code m_Ba_draw := sorry
def m_Ba_order : qm := (⟨"DrawingHouse$Bars", "order", "(LDrawingHouse$Web;)V"⟩, prog_2_method_2_code, 5, none)
theorem cd_Ba_order : q_code m_Ba_order := sorry
def m_Ba_way : qm := (⟨"DrawingHouse$Bars", "way", "(LDrawingHouse$Web;II)I"⟩, prog_2_method_3_code, 13, (some (.int)))
theorem cd_Ba_way : q_code m_Ba_way := sorry
def m_Ba_nearer : qm := (⟨"DrawingHouse$Bars", "nearer", "(III)Z"⟩, prog_2_method_4_code, 4, (some (.boolean)))
theorem cd_Ba_nearer : q_code m_Ba_nearer := sorry
def m_Ba_add : qm := (⟨"DrawingHouse$Bars", "add", "(III)V"⟩, prog_2_method_5_code, 8, none)
theorem cd_Ba_add : q_code m_Ba_add := sorry
def m_Ba_low : qm := (⟨"DrawingHouse$Bars", "low", "(LDrawingHouse$Web;I)I"⟩, prog_2_method_6_code, 3, (some (.int)))
theorem cd_Ba_low : q_code m_Ba_low := sorry
def m_Ba_left : qm := (⟨"DrawingHouse$Bars", "left", "(LDrawingHouse$Web;I)I"⟩, prog_2_method_7_code, 3, (some (.int)))
theorem cd_Ba_left : q_code m_Ba_left := sorry
def m_Ba_right : qm := (⟨"DrawingHouse$Bars", "right", "(LDrawingHouse$Web;I)I"⟩, prog_2_method_8_code, 3, (some (.int)))
theorem cd_Ba_right : q_code m_Ba_right := sorry
def m_Ba_xOf : qm := (⟨"DrawingHouse$Bars", "xOf", "(LDrawingHouse$Web;I)I"⟩, prog_2_method_10_code, 3, (some (.int)))
theorem cd_Ba_xOf : q_code m_Ba_xOf := sorry
def m_Math_floorDiv_0 : qm := (⟨"java/lang/Math", "floorDiv", "(II)I"⟩, prog_25_method_47_code, 3, (some (.int)))
theorem cd_Math_floorDiv_0 : q_code m_Math_floorDiv_0 := sorry
def m_Pn_begin : qm := (⟨"DrawingHouse$Plain", "begin", "(LDrawingHouse$Graph;LDrawingHouse$Shape;LDrawingHouse$Drawing;)V"⟩, prog_13_method_2_code, 4, none)
theorem cd_Pn_begin : q_code m_Pn_begin := sorry
def m_Pn_tree : qm := (⟨"DrawingHouse$Plain", "tree", "(I)Z"⟩, prog_13_method_3_code, 9, (some (.boolean)))
theorem cd_Pn_tree : q_code m_Pn_tree := sorry
def m_Pn_lay : qm := (⟨"DrawingHouse$Plain", "lay", "(III)V"⟩, prog_13_method_4_code, 13, none)
theorem cd_Pn_lay : q_code m_Pn_lay := sorry
def m_Pn_place : qm := (⟨"DrawingHouse$Plain", "place", "(III)V"⟩, prog_13_method_5_code, 5, none)
theorem cd_Pn_place : q_code m_Pn_place := sorry
def m_Pn_areas : qm := (⟨"DrawingHouse$Plain", "areas", "(I)V"⟩, prog_13_method_6_code, 3, none)
theorem cd_Pn_areas : q_code m_Pn_areas := sorry
def m_Pn_set : qm := (⟨"DrawingHouse$Plain", "set", "([IIIIII)V"⟩, prog_13_method_7_code, 6, none)
theorem cd_Pn_set : q_code m_Pn_set := sorry
def m_Pn_fill : qm := (⟨"DrawingHouse$Plain", "fill", "(I)V"⟩, prog_13_method_8_code, 8, none)
theorem cd_Pn_fill : q_code m_Pn_fill := sorry
def m_Pn_rows : qm := (⟨"DrawingHouse$Plain", "rows", "(IIIIII)V"⟩, prog_13_method_9_code, 27, none)
theorem cd_Pn_rows : q_code m_Pn_rows := sorry
def m_Pn_isWorse : qm := (⟨"DrawingHouse$Plain", "isWorse", "(IIIIII)Z"⟩, prog_13_method_10_code, 11, (some (.boolean)))
theorem cd_Pn_isWorse : q_code m_Pn_isWorse := sorry
def m_Pn_isAbove : qm := (⟨"DrawingHouse$Plain", "isAbove", "(JJJJJ)Z"⟩, prog_13_method_11_code, 10, (some (.boolean)))
theorem cd_Pn_isAbove : q_code m_Pn_isAbove := sorry
def m_Pn_isMore : qm := (⟨"DrawingHouse$Plain", "isMore", "(JJJJ)Z"⟩, prog_13_method_12_code, 22, (some (.boolean)))
theorem cd_Pn_isMore : q_code m_Pn_isMore := sorry
def m_Pn_ring : qm := (⟨"DrawingHouse$Plain", "ring", "()V"⟩, prog_13_method_15_code, 7, none)
theorem cd_Pn_ring : q_code m_Pn_ring := sorry
def m_Pn_crossings : qm := (⟨"DrawingHouse$Plain", "crossings", "([II)I"⟩, prog_13_method_13_code, 6, (some (.int)))
theorem cd_Pn_crossings : q_code m_Pn_crossings := sorry
def m_Pn_crosses : qm := (⟨"DrawingHouse$Plain", "crosses", "(III)Z"⟩, prog_13_method_14_code, 10, (some (.boolean)))
theorem cd_Pn_crosses : q_code m_Pn_crosses := sorry
def m_Pn_nextOrder : qm := (⟨"DrawingHouse$Plain", "nextOrder", "(I)Z"⟩, prog_13_method_16_code, 6, (some (.boolean)))
theorem cd_Pn_nextOrder : q_code m_Pn_nextOrder := sorry
def m_Pn_swap : qm := (⟨"DrawingHouse$Plain", "swap", "(II)V"⟩, prog_13_method_17_code, 4, none)
theorem cd_Pn_swap : q_code m_Pn_swap := sorry
def m_Pn_sift : qm := (⟨"DrawingHouse$Plain", "sift", "(II)I"⟩, prog_13_method_18_code, 8, (some (.int)))
theorem cd_Pn_sift : q_code m_Pn_sift := sorry
def m_Pn_forces : qm := (⟨"DrawingHouse$Plain", "forces", "(I)V"⟩, prog_13_method_20_code, 7, none)
theorem cd_Pn_forces : q_code m_Pn_forces := sorry
def m_Pn_push : qm := (⟨"DrawingHouse$Plain", "push", "(II)V"⟩, prog_13_method_21_code, 12, none)
theorem cd_Pn_push : q_code m_Pn_push := sorry
def m_Pn_root : qm := (⟨"DrawingHouse$Plain", "root", "(J)J"⟩, prog_13_method_19_code, 6, (some (.long)))
theorem cd_Pn_root : q_code m_Pn_root := sorry
def m_Math_min_1 : qm := (⟨"java/lang/Math", "min", "(JJ)J"⟩, prog_25_method_70_code, 4, (some (.long)))
theorem cd_Math_min_1 : q_code m_Math_min_1 := sorry
def m_Math_max_1 : qm := (⟨"java/lang/Math", "max", "(JJ)J"⟩, prog_25_method_66_code, 4, (some (.long)))
theorem cd_Math_max_1 : q_code m_Math_max_1 := sorry
def m_Math_floorDiv_1 : qm := (⟨"java/lang/Math", "floorDiv", "(JJ)J"⟩, prog_25_method_49_code, 6, (some (.long)))
theorem cd_Math_floorDiv_1 : q_code m_Math_floorDiv_1 := sorry
def m_Pn_matrix : qm := (⟨"DrawingHouse$Plain", "matrix", "()V"⟩, prog_13_method_22_code, 6, none)
theorem cd_Pn_matrix : q_code m_Pn_matrix := sorry
def m_Pn_fewest : qm := (⟨"DrawingHouse$Plain", "fewest", "(I)I"⟩, prog_13_method_23_code, 4, (some (.int)))
theorem cd_Pn_fewest : q_code m_Pn_fewest := sorry
def m_Math_abs_0 : qm := (⟨"java/lang/Math", "abs", "(I)I"⟩, prog_25_method_59_code, 1, (some (.int)))
theorem cd_Math_abs_0 : q_code m_Math_abs_0 := sorry
def m_Dr_copy : qm := (⟨"DrawingHouse$Drawing", "copy", "(LDrawingHouse$Drawing;)V"⟩, prog_3_method_2_code, 2, none)
theorem cd_Dr_copy : q_code m_Dr_copy := sorry
def m_DH_at : qm := (⟨"DrawingHouse", "at", "(IIII)I"⟩, prog_1_method_36_code, 7, (some (.int)))
theorem cd_DH_at : q_code m_DH_at := sorry
def m_DH_drawing : qm := (⟨"DrawingHouse", "drawing", "(I)LDrawingHouse$Drawing;"⟩, prog_1_method_35_code, 2, (some (.object "DrawingHouse$Drawing")))
theorem cd_DH_drawing : q_code m_DH_drawing := sorry
def m_DH_told : qm := (⟨"DrawingHouse", "told", "(III)I"⟩, prog_1_method_37_code, 7, (some (.int)))
theorem cd_DH_told : q_code m_DH_told := sorry
def m_DH_put : qm := (⟨"DrawingHouse", "put", "(IIIII)Z"⟩, prog_1_method_39_code, 7, (some (.boolean)))
theorem cd_DH_put : q_code m_DH_put := sorry
def m_DH_isIn : qm := (⟨"DrawingHouse", "isIn", "(I)Z"⟩, prog_1_method_38_code, 1, (some (.boolean)))
theorem cd_DH_isIn : q_code m_DH_isIn := sorry
def m_DH_route : qm := (⟨"DrawingHouse", "route", "(II)I"⟩, prog_1_method_40_code, 3, (some (.int)))
theorem cd_DH_route : q_code m_DH_route := sorry
def m_Ro_lead : qm := (⟨"DrawingHouse$Routes", "lead", "(LDrawingHouse$Graph;LDrawingHouse$Drawing;I)I"⟩, prog_15_method_3_code, 8, (some (.int)))
theorem cd_Ro_lead : q_code m_Ro_lead := sorry
def m_Ro_half : qm := (⟨"DrawingHouse$Routes", "half", "(LDrawingHouse$Graph;I)I"⟩, prog_15_method_2_code, 2, (some (.int)))
theorem cd_Ro_half : q_code m_Ro_half := sorry
def m_Ro_box : qm := (⟨"DrawingHouse$Routes", "box", "(III)V"⟩, prog_15_method_5_code, 6, none)
theorem cd_Ro_box : q_code m_Ro_box := sorry
def m_Ro_point : qm := (⟨"DrawingHouse$Routes", "point", "(II)I"⟩, prog_15_method_4_code, 3, (some (.int)))
theorem cd_Ro_point : q_code m_Ro_point := sorry
def m_Ro_spread : qm := (⟨"DrawingHouse$Routes", "spread", "(I)V"⟩, prog_15_method_7_code, 6, none)
theorem cd_Ro_spread : q_code m_Ro_spread := sorry
def m_Ro_back : qm := (⟨"DrawingHouse$Routes", "back", "(III)V"⟩, prog_15_method_8_code, 7, none)
theorem cd_Ro_back : q_code m_Ro_back := sorry
def m_Ro_next : qm := (⟨"DrawingHouse$Routes", "next", "(II)I"⟩, prog_15_method_6_code, 5, (some (.int)))
theorem cd_Ro_next : q_code m_Ro_next := sorry
def m_Ro_walk : qm := (⟨"DrawingHouse$Routes", "walk", "(LDrawingHouse$Drawing;III)I"⟩, prog_15_method_9_code, 10, (some (.int)))
theorem cd_Ro_walk : q_code m_Ro_walk := sorry
def m_DH_label : qm := (⟨"DrawingHouse", "label", "(III)I"⟩, prog_1_method_41_code, 8, (some (.int)))
theorem cd_DH_label : q_code m_DH_label := sorry
def m_Dr_pointX : qm := (⟨"DrawingHouse$Drawing", "pointX", "(LDrawingHouse$Graph;II)I"⟩, prog_3_method_5_code, 4, (some (.int)))
theorem cd_Dr_pointX : q_code m_Dr_pointX := sorry
def m_Dr_pointY : qm := (⟨"DrawingHouse$Drawing", "pointY", "(LDrawingHouse$Graph;II)I"⟩, prog_3_method_6_code, 4, (some (.int)))
theorem cd_Dr_pointY : q_code m_Dr_pointY := sorry
def m_DH_isFree : qm := (⟨"DrawingHouse", "isFree", "(LDrawingHouse$Graph;LDrawingHouse$Drawing;I)Z"⟩, prog_1_method_42_code, 5, (some (.boolean)))
theorem cd_DH_isFree : q_code m_DH_isFree := sorry
def m_DH_judge : qm := (⟨"DrawingHouse", "judge", "(II)J"⟩, prog_1_method_43_code, 3, (some (.long)))
theorem cd_DH_judge : q_code m_DH_judge := sorry
def m_Ju_count : qm := (⟨"DrawingHouse$Judge", "count", "(LDrawingHouse$Graph;LDrawingHouse$Drawing;I)J"⟩, prog_8_method_3_code, 4, (some (.long)))
theorem cd_Ju_count : q_code m_Ju_count := sorry
def m_Ju_crossings : qm := (⟨"DrawingHouse$Judge", "crossings", "()J"⟩, prog_8_method_11_code, 8, (some (.long)))
theorem cd_Ju_crossings : q_code m_Ju_crossings := sorry
def m_Ju_first : qm := (⟨"DrawingHouse$Judge", "first", "(II)V"⟩, prog_8_method_4_code, 3, none)
theorem cd_Ju_first : q_code m_Ju_first := sorry
def m_Ju_second : qm := (⟨"DrawingHouse$Judge", "second", "(II)V"⟩, prog_8_method_5_code, 3, none)
theorem cd_Ju_second : q_code m_Ju_second := sorry
def m_Ju_meet : qm := (⟨"DrawingHouse$Judge", "meet", "()Z"⟩, prog_8_method_8_code, 5, (some (.boolean)))
theorem cd_Ju_meet : q_code m_Ju_meet := sorry
def m_Ju_side : qm := (⟨"DrawingHouse$Judge", "side", "(IIIIII)I"⟩, prog_8_method_6_code, 6, (some (.int)))
theorem cd_Ju_side : q_code m_Ju_side := sorry
def m_Long_signum : qm := (⟨"java/lang/Long", "signum", "(J)I"⟩, prog_24_method_57_code, 2, (some (.int)))
theorem cd_Long_signum : q_code m_Long_signum := sorry
def m_Ju_isOn : qm := (⟨"DrawingHouse$Judge", "isOn", "(IIIIII)Z"⟩, prog_8_method_7_code, 6, (some (.boolean)))
theorem cd_Ju_isOn : q_code m_Ju_isOn := sorry
def m_Ju_beyond : qm := (⟨"DrawingHouse$Judge", "beyond", "(II)Z"⟩, prog_8_method_9_code, 5, (some (.boolean)))
theorem cd_Ju_beyond : q_code m_Ju_beyond := sorry
def m_Ju_isOther : qm := (⟨"DrawingHouse$Judge", "isOther", "(IIII)Z"⟩, prog_8_method_10_code, 4, (some (.boolean)))
theorem cd_Ju_isOther : q_code m_Ju_isOther := sorry
def m_Ju_pairs : qm := (⟨"DrawingHouse$Judge", "pairs", "(Z)J"⟩, prog_8_method_12_code, 9, (some (.long)))
theorem cd_Ju_pairs : q_code m_Ju_pairs := sorry
def m_Ju_half : qm := (⟨"DrawingHouse$Judge", "half", "(LDrawingHouse$Graph;I)I"⟩, prog_8_method_2_code, 2, (some (.int)))
theorem cd_Ju_half : q_code m_Ju_half := sorry
def m_Ju_over : qm := (⟨"DrawingHouse$Judge", "over", "()J"⟩, prog_8_method_13_code, 7, (some (.long)))
theorem cd_Ju_over : q_code m_Ju_over := sorry
def m_Ju_upward : qm := (⟨"DrawingHouse$Judge", "upward", "()J"⟩, prog_8_method_14_code, 6, (some (.long)))
theorem cd_Ju_upward : q_code m_Ju_upward := sorry
def m_Ju_bends : qm := (⟨"DrawingHouse$Judge", "bends", "()J"⟩, prog_8_method_15_code, 4, (some (.long)))
theorem cd_Ju_bends : q_code m_Ju_bends := sorry
def m_Ju_slant : qm := (⟨"DrawingHouse$Judge", "slant", "()J"⟩, prog_8_method_16_code, 5, (some (.long)))
theorem cd_Ju_slant : q_code m_Ju_slant := sorry
def m_Ju_area : qm := (⟨"DrawingHouse$Judge", "area", "()J"⟩, prog_8_method_18_code, 7, (some (.long)))
theorem cd_Ju_area : q_code m_Ju_area := sorry
def m_Ju_length : qm := (⟨"DrawingHouse$Judge", "length", "()J"⟩, prog_8_method_17_code, 5, (some (.long)))
theorem cd_Ju_length : q_code m_Ju_length := sorry
def m_Ju_triangle : qm := (⟨"DrawingHouse$Judge", "triangle", "()J"⟩, prog_8_method_19_code, 10, (some (.long)))
theorem cd_Ju_triangle : q_code m_Ju_triangle := sorry
def m_Math_abs_1 : qm := (⟨"java/lang/Math", "abs", "(J)J"⟩, prog_25_method_61_code, 2, (some (.long)))
theorem cd_Math_abs_1 : q_code m_Math_abs_1 := sorry
def m_DH_style : qm := (⟨"DrawingHouse", "style", "(II)I"⟩, prog_1_method_44_code, 6, (some (.int)))
theorem cd_DH_style : q_code m_DH_style := sorry
def m_Sy_rule : qm := (⟨"DrawingHouse$Style", "rule", "()V"⟩, prog_17_method_8_code, 1, none)
theorem cd_Sy_rule : q_code m_Sy_rule := sorry
def m_Sy_put : qm := (⟨"DrawingHouse$Style", "put", "(II)V"⟩, prog_17_method_6_code, 3, none)
theorem cd_Sy_put : q_code m_Sy_put := sorry
def m_Sy_test : qm := (⟨"DrawingHouse$Style", "test", "()V"⟩, prog_17_method_11_code, 1, none)
theorem cd_Sy_test : q_code m_Sy_test := sorry
def m_Sy_both_0 : qm := (⟨"DrawingHouse$Style", "both", "()V"⟩, prog_17_method_12_code, 1, none)
theorem cd_Sy_both_0 : q_code m_Sy_both_0 := sorry
def m_Sy_one_0 : qm := (⟨"DrawingHouse$Style", "one", "()V"⟩, prog_17_method_13_code, 2, none)
theorem cd_Sy_one_0 : q_code m_Sy_one_0 := sorry
def m_Sy_opens : qm := (⟨"DrawingHouse$Style", "opens", "()V"⟩, prog_17_method_10_code, 1, none)
theorem cd_Sy_opens : q_code m_Sy_opens := sorry
def m_Sy_sum : qm := (⟨"DrawingHouse$Style", "sum", "()V"⟩, prog_17_method_14_code, 2, none)
theorem cd_Sy_sum : q_code m_Sy_sum := sorry
def m_Sy_product : qm := (⟨"DrawingHouse$Style", "product", "()V"⟩, prog_17_method_15_code, 2, none)
theorem cd_Sy_product : q_code m_Sy_product := sorry
def m_Sy_factor : qm := (⟨"DrawingHouse$Style", "factor", "()V"⟩, prog_17_method_16_code, 3, none)
theorem cd_Sy_factor : q_code m_Sy_factor := sorry
def m_Sy_setting : qm := (⟨"DrawingHouse$Style", "setting", "()V"⟩, prog_17_method_9_code, 2, none)
theorem cd_Sy_setting : q_code m_Sy_setting := sorry
def m_Sy_work : qm := (⟨"DrawingHouse$Style", "work", "(LDrawingHouse$Graph;LDrawingHouse$Shape;LDrawingHouse$Drawing;[Z[I[I)V"⟩, prog_17_method_18_code, 11, none)
theorem cd_Sy_work : q_code m_Sy_work := sorry
def m_Sy_one_1 : qm := (⟨"DrawingHouse$Style", "one", "(IIZILDrawingHouse$Graph;LDrawingHouse$Shape;LDrawingHouse$Drawing;[Z[I)V"⟩, prog_17_method_19_code, 16, none)
theorem cd_Sy_one_1 : q_code m_Sy_one_1 := sorry
def m_Sy_ofNode : qm := (⟨"DrawingHouse$Style", "ofNode", "(IILDrawingHouse$Graph;LDrawingHouse$Shape;LDrawingHouse$Drawing;)J"⟩, prog_17_method_21_code, 5, (some (.long)))
theorem cd_Sy_ofNode : q_code m_Sy_ofNode := sorry
def m_Sy_count : qm := (⟨"DrawingHouse$Style", "count", "([III)I"⟩, prog_17_method_22_code, 5, (some (.int)))
theorem cd_Sy_count : q_code m_Sy_count := sorry
def m_Sh_isCut : qm := (⟨"DrawingHouse$Shape", "isCut", "(I)Z"⟩, prog_16_method_11_code, 2, (some (.boolean)))
theorem cd_Sh_isCut : q_code m_Sh_isCut := sorry
def m_Sy_ofEdge : qm := (⟨"DrawingHouse$Style", "ofEdge", "(IILDrawingHouse$Graph;LDrawingHouse$Shape;LDrawingHouse$Drawing;[Z)J"⟩, prog_17_method_23_code, 6, (some (.long)))
theorem cd_Sy_ofEdge : q_code m_Sy_ofEdge := sorry
def m_Sy_both_1 : qm := (⟨"DrawingHouse$Style", "both", "(IJJ)J"⟩, prog_17_method_20_code, 5, (some (.long)))
theorem cd_Sy_both_1 : q_code m_Sy_both_1 := sorry
def m_Sy_over : qm := (⟨"DrawingHouse$Style", "over", "(JJ)J"⟩, prog_17_method_17_code, 4, (some (.long)))
theorem cd_Sy_over : q_code m_Sy_over := sorry
def m_DH_shade : qm := (⟨"DrawingHouse", "shade", "(IIII)I"⟩, prog_1_method_45_code, 5, (some (.int)))
theorem cd_DH_shade : q_code m_DH_shade := sorry
def m_DH_text : qm := (⟨"DrawingHouse", "text", "(II)I"⟩, prog_1_method_56_code, 3, (some (.int)))
theorem cd_DH_text : q_code m_DH_text := sorry
def m_DH_outGraph : qm := (⟨"DrawingHouse", "outGraph", "(LDrawingHouse$Graph;)V"⟩, prog_1_method_53_code, 3, none)
theorem cd_DH_outGraph : q_code m_DH_outGraph := sorry
def m_DH_outGroup : qm := (⟨"DrawingHouse", "outGroup", "(LDrawingHouse$Graph;I)V"⟩, prog_1_method_52_code, 4, none)
theorem cd_DH_outGroup : q_code m_DH_outGroup := sorry
def m_DH_outWord : qm := (⟨"DrawingHouse", "outWord", "(Ljava/lang/String;)V"⟩, prog_1_method_47_code, 3, none)
theorem cd_DH_outWord : q_code m_DH_outWord := sorry
def m_DH_out : qm := (⟨"DrawingHouse", "out", "(I)V"⟩, prog_1_method_46_code, 2, none)
theorem cd_DH_out : q_code m_DH_out := sorry
def m_DH_outName : qm := (⟨"DrawingHouse", "outName", "(LDrawingHouse$Graph;I)V"⟩, prog_1_method_49_code, 3, none)
theorem cd_DH_outName : q_code m_DH_outName := sorry
def m_DH_outRow : qm := (⟨"DrawingHouse", "outRow", "([BII)V"⟩, prog_1_method_48_code, 5, none)
theorem cd_DH_outRow : q_code m_DH_outRow := sorry
def m_DH_outOf : qm := (⟨"DrawingHouse", "outOf", "(Ljava/lang/String;I)V"⟩, prog_1_method_51_code, 3, none)
theorem cd_DH_outOf : q_code m_DH_outOf := sorry
def m_DH_outNumber : qm := (⟨"DrawingHouse", "outNumber", "(I)V"⟩, prog_1_method_50_code, 6, none)
theorem cd_DH_outNumber : q_code m_DH_outNumber := sorry
def m_DH_outDrawing : qm := (⟨"DrawingHouse", "outDrawing", "(LDrawingHouse$Graph;LDrawingHouse$Drawing;)V"⟩, prog_1_method_55_code, 5, none)
theorem cd_DH_outDrawing : q_code m_DH_outDrawing := sorry
def m_DH_outTwo : qm := (⟨"DrawingHouse", "outTwo", "(II)V"⟩, prog_1_method_54_code, 3, none)
theorem cd_DH_outTwo : q_code m_DH_outTwo := sorry
def m_DH_octet : qm := (⟨"DrawingHouse", "octet", "(I)I"⟩, prog_1_method_57_code, 2, (some (.int)))
theorem cd_DH_octet : q_code m_DH_octet := sorry
def m_DH_dots : qm := (⟨"DrawingHouse", "dots", "(III)I"⟩, prog_1_method_59_code, 15, (some (.int)))
theorem cd_DH_dots : q_code m_DH_dots := sorry
def m_DH_scaled : qm := (⟨"DrawingHouse", "scaled", "(IIII)I"⟩, prog_1_method_58_code, 5, (some (.int)))
theorem cd_DH_scaled : q_code m_DH_scaled := sorry
def m_DH_line : qm := (⟨"DrawingHouse", "line", "(IIIII)V"⟩, prog_1_method_60_code, 10, none)
theorem cd_DH_line : q_code m_DH_line := sorry
def m_DH_dot : qm := (⟨"DrawingHouse", "dot", "(II)I"⟩, prog_1_method_61_code, 3, (some (.int)))
theorem cd_DH_dot : q_code m_DH_dot := sorry
def m_Mo_init : qm := (⟨"DrawingHouseModel", "<init>", "()V"⟩, prog_21_method_1_code, 2, none)
theorem cd_Mo_init : q_code m_Mo_init := sorry
def m_Mo_rowOf : qm := (⟨"DrawingHouseModel", "rowOf", "(II)I"⟩, prog_21_method_7_code, 2, (some (.int)))
theorem cd_Mo_rowOf : q_code m_Mo_rowOf := sorry
def m_Mo_clear : qm := (⟨"DrawingHouseModel", "clear", "(I)V"⟩, prog_21_method_8_code, 3, none)
theorem cd_Mo_clear : q_code m_Mo_clear := sorry
def m_Mo_permutations : qm := (⟨"DrawingHouseModel", "permutations", "()V"⟩, prog_21_method_130_code, 5, none)
theorem cd_Mo_permutations : q_code m_Mo_permutations := sorry
def m_Mo_nextOrder : qm := (⟨"DrawingHouseModel", "nextOrder", "(I)Z"⟩, prog_21_method_120_code, 7, (some (.boolean)))
theorem cd_Mo_nextOrder : q_code m_Mo_nextOrder := sorry
def m_Mo_feed : qm := (⟨"DrawingHouseModel", "feed", "(IIIII)I"⟩, prog_21_method_6_code, 8, (some (.int)))
theorem cd_Mo_feed : q_code m_Mo_feed := sorry
def m_Mo_fault : qm := (⟨"DrawingHouseModel", "fault", "(I)I"⟩, prog_21_method_24_code, 2, (some (.int)))
theorem cd_Mo_fault : q_code m_Mo_fault := sorry
def m_Mo_in : qm := (⟨"DrawingHouseModel", "in", "(III)Z"⟩, prog_21_method_3_code, 3, (some (.boolean)))
theorem cd_Mo_in : q_code m_Mo_in := sorry
def m_Mo_read : qm := (⟨"DrawingHouseModel", "read", "(II)I"⟩, prog_21_method_41_code, 4, (some (.int)))
theorem cd_Mo_read : q_code m_Mo_read := sorry
def m_Mo_isPlace : qm := (⟨"DrawingHouseModel", "isPlace", "(I)Z"⟩, prog_21_method_9_code, 1, (some (.boolean)))
theorem cd_Mo_isPlace : q_code m_Mo_isPlace := sorry
def m_Mo_next : qm := (⟨"DrawingHouseModel", "next", "()V"⟩, prog_21_method_28_code, 3, none)
theorem cd_Mo_next : q_code m_Mo_next := sorry
def m_Mo_byteAt : qm := (⟨"DrawingHouseModel", "byteAt", "(I)I"⟩, prog_21_method_25_code, 2, (some (.int)))
theorem cd_Mo_byteAt : q_code m_Mo_byteAt := sorry
def m_Mo_isLetter : qm := (⟨"DrawingHouseModel", "isLetter", "(I)Z"⟩, prog_21_method_26_code, 1, (some (.boolean)))
theorem cd_Mo_isLetter : q_code m_Mo_isLetter := sorry
def m_Mo_isDigit : qm := (⟨"DrawingHouseModel", "isDigit", "(I)Z"⟩, prog_21_method_27_code, 1, (some (.boolean)))
theorem cd_Mo_isDigit : q_code m_Mo_isDigit := sorry
def m_Mo_item : qm := (⟨"DrawingHouseModel", "item", "(II)V"⟩, prog_21_method_37_code, 5, none)
theorem cd_Mo_item : q_code m_Mo_item := sorry
def m_Mo_isWord : qm := (⟨"DrawingHouseModel", "isWord", "(Ljava/lang/String;)Z"⟩, prog_21_method_29_code, 4, (some (.boolean)))
theorem cd_Mo_isWord : q_code m_Mo_isWord := sorry
def m_Mo_met : qm := (⟨"DrawingHouseModel", "met", "(II)I"⟩, prog_21_method_35_code, 6, (some (.int)))
theorem cd_Mo_met : q_code m_Mo_met := sorry
def m_Mo_isName : qm := (⟨"DrawingHouseModel", "isName", "()Z"⟩, prog_21_method_33_code, 1, (some (.boolean)))
theorem cd_Mo_isName : q_code m_Mo_isName := sorry
def m_Mo_wrong : qm := (⟨"DrawingHouseModel", "wrong", "(II)V"⟩, prog_21_method_30_code, 3, none)
theorem cd_Mo_wrong : q_code m_Mo_wrong := sorry
def m_Mo_known : qm := (⟨"DrawingHouseModel", "known", "()I"⟩, prog_21_method_34_code, 4, (some (.int)))
theorem cd_Mo_known : q_code m_Mo_known := sorry
def m_Mo_nodes : qm := (⟨"DrawingHouseModel", "nodes", "()I"⟩, prog_21_method_11_code, 1, (some (.int)))
theorem cd_Mo_nodes : q_code m_Mo_nodes := sorry
def m_Mo_longOf : qm := (⟨"DrawingHouseModel", "longOf", "(I)I"⟩, prog_21_method_20_code, 2, (some (.int)))
theorem cd_Mo_longOf : q_code m_Mo_longOf := sorry
def m_Mo_between : qm := (⟨"DrawingHouseModel", "between", "(II)I"⟩, prog_21_method_23_code, 4, (some (.int)))
theorem cd_Mo_between : q_code m_Mo_between := sorry
def m_Mo_edges : qm := (⟨"DrawingHouseModel", "edges", "()I"⟩, prog_21_method_12_code, 1, (some (.int)))
theorem cd_Mo_edges : q_code m_Mo_edges := sorry
def m_Mo_has : qm := (⟨"DrawingHouseModel", "has", "(II)Z"⟩, prog_21_method_22_code, 3, (some (.boolean)))
theorem cd_Mo_has : q_code m_Mo_has := sorry
def m_Mo_tail : qm := (⟨"DrawingHouseModel", "tail", "(I)I"⟩, prog_21_method_14_code, 2, (some (.int)))
theorem cd_Mo_tail : q_code m_Mo_tail := sorry
def m_Mo_head : qm := (⟨"DrawingHouseModel", "head", "(I)I"⟩, prog_21_method_15_code, 2, (some (.int)))
theorem cd_Mo_head : q_code m_Mo_head := sorry
def m_Mo_of : qm := (⟨"DrawingHouseModel", "of", "(Ljava/lang/String;I)I"⟩, prog_21_method_36_code, 4, (some (.int)))
theorem cd_Mo_of : q_code m_Mo_of := sorry
def m_Mo_sign : qm := (⟨"DrawingHouseModel", "sign", "(I)Z"⟩, prog_21_method_31_code, 2, (some (.boolean)))
theorem cd_Mo_sign : q_code m_Mo_sign := sorry
def m_Mo_need : qm := (⟨"DrawingHouseModel", "need", "(I)V"⟩, prog_21_method_32_code, 2, none)
theorem cd_Mo_need : q_code m_Mo_need := sorry
def m_Mo_groupItem : qm := (⟨"DrawingHouseModel", "groupItem", "(II)V"⟩, prog_21_method_38_code, 5, none)
theorem cd_Mo_groupItem : q_code m_Mo_groupItem := sorry
def m_Mo_groups : qm := (⟨"DrawingHouseModel", "groups", "()I"⟩, prog_21_method_13_code, 1, (some (.int)))
theorem cd_Mo_groups : q_code m_Mo_groups := sorry
def m_Mo_edgeItem : qm := (⟨"DrawingHouseModel", "edgeItem", "(I)V"⟩, prog_21_method_39_code, 6, none)
theorem cd_Mo_edgeItem : q_code m_Mo_edgeItem := sorry
def m_Mo_newEdge : qm := (⟨"DrawingHouseModel", "newEdge", "(III)V"⟩, prog_21_method_40_code, 5, none)
theorem cd_Mo_newEdge : q_code m_Mo_newEdge := sorry
def m_Mo_changed : qm := (⟨"DrawingHouseModel", "changed", "(I)V"⟩, prog_21_method_42_code, 3, none)
theorem cd_Mo_changed : q_code m_Mo_changed := sorry
def m_Mo_change : qm := (⟨"DrawingHouseModel", "change", "(IIII)I"⟩, prog_21_method_44_code, 5, (some (.int)))
theorem cd_Mo_change : q_code m_Mo_change := sorry
def m_Mo_take : qm := (⟨"DrawingHouseModel", "take", "(I)V"⟩, prog_21_method_10_code, 2, none)
theorem cd_Mo_take : q_code m_Mo_take := sorry
def m_Mo_newNode : qm := (⟨"DrawingHouseModel", "newNode", "(II)I"⟩, prog_21_method_46_code, 8, (some (.int)))
theorem cd_Mo_newNode : q_code m_Mo_newNode := sorry
def m_Mo_step : qm := (⟨"DrawingHouseModel", "step", "(I)V"⟩, prog_21_method_43_code, 4, none)
theorem cd_Mo_step : q_code m_Mo_step := sorry
def m_Mo_dropEdge : qm := (⟨"DrawingHouseModel", "dropEdge", "(I)V"⟩, prog_21_method_47_code, 3, none)
theorem cd_Mo_dropEdge : q_code m_Mo_dropEdge := sorry
def m_Mo_dropNode : qm := (⟨"DrawingHouseModel", "dropNode", "(I)V"⟩, prog_21_method_48_code, 4, none)
theorem cd_Mo_dropNode : q_code m_Mo_dropNode := sorry
def m_Mo_becomes : qm := (⟨"DrawingHouseModel", "becomes", "(IIZII)I"⟩, prog_21_method_45_code, 6, (some (.int)))
theorem cd_Mo_becomes : q_code m_Mo_becomes := sorry
def m_Mo_back : qm := (⟨"DrawingHouseModel", "back", "(II)Z"⟩, prog_21_method_49_code, 3, (some (.boolean)))
theorem cd_Mo_back : q_code m_Mo_back := sorry
def m_Mo_same : qm := (⟨"DrawingHouseModel", "same", "(II)I"⟩, prog_21_method_59_code, 9, (some (.int)))
theorem cd_Mo_same : q_code m_Mo_same := sorry
def m_Mo_fits : qm := (⟨"DrawingHouseModel", "fits", "(II)Z"⟩, prog_21_method_60_code, 5, (some (.boolean)))
theorem cd_Mo_fits : q_code m_Mo_fits := sorry
def m_Mo_degree : qm := (⟨"DrawingHouseModel", "degree", "(II)I"⟩, prog_21_method_58_code, 5, (some (.int)))
theorem cd_Mo_degree : q_code m_Mo_degree := sorry
def m_Mo_edgeWay : qm := (⟨"DrawingHouseModel", "edgeWay", "(III)I"⟩, prog_21_method_57_code, 8, (some (.int)))
theorem cd_Mo_edgeWay : q_code m_Mo_edgeWay := sorry
def m_Mo_map : qm := (⟨"DrawingHouseModel", "map", "(I)I"⟩, prog_21_method_61_code, 2, (some (.int)))
theorem cd_Mo_map : q_code m_Mo_map := sorry
def m_Mo_planar : qm := (⟨"DrawingHouseModel", "planar", "(II)I"⟩, prog_21_method_94_code, 4, (some (.int)))
theorem cd_Mo_planar : q_code m_Mo_planar := sorry
def m_Mo_isOuter : qm := (⟨"DrawingHouseModel", "isOuter", "()Z"⟩, prog_21_method_92_code, 2, (some (.boolean)))
theorem cd_Mo_isOuter : q_code m_Mo_isOuter := sorry
def m_Mo_plane : qm := (⟨"DrawingHouseModel", "plane", "()V"⟩, prog_21_method_62_code, 2, none)
theorem cd_Mo_plane : q_code m_Mo_plane := sorry
def m_Mo_embed : qm := (⟨"DrawingHouseModel", "embed", "()Z"⟩, prog_21_method_84_code, 4, (some (.boolean)))
theorem cd_Mo_embed : q_code m_Mo_embed := sorry
def m_Mo_blocks : qm := (⟨"DrawingHouseModel", "blocks", "()I"⟩, prog_21_method_66_code, 4, (some (.int)))
theorem cd_Mo_blocks : q_code m_Mo_blocks := sorry
def m_Mo_at_0 : qm := (⟨"DrawingHouseModel", "at", "(II)Z"⟩, prog_21_method_64_code, 3, (some (.boolean)))
theorem cd_Mo_at_0 : q_code m_Mo_at_0 := sorry
def m_Mo_across_0 : qm := (⟨"DrawingHouseModel", "across", "(II)I"⟩, prog_21_method_63_code, 3, (some (.int)))
theorem cd_Mo_across_0 : q_code m_Mo_across_0 := sorry
def m_Mo_flood : qm := (⟨"DrawingHouseModel", "flood", "(II)V"⟩, prog_21_method_65_code, 5, none)
theorem cd_Mo_flood : q_code m_Mo_flood := sorry
def m_Mo_join : qm := (⟨"DrawingHouseModel", "join", "(II)V"⟩, prog_21_method_67_code, 4, none)
theorem cd_Mo_join : q_code m_Mo_join := sorry
def m_Mo_min : qm := (⟨"DrawingHouseModel", "min", "(II)I"⟩, prog_21_method_5_code, 2, (some (.int)))
theorem cd_Mo_min : q_code m_Mo_min := sorry
def m_Mo_draws : qm := (⟨"DrawingHouseModel", "draws", "(I)Z"⟩, prog_21_method_68_code, 6, (some (.boolean)))
theorem cd_Mo_draws : q_code m_Mo_draws := sorry
def m_Mo_shortest : qm := (⟨"DrawingHouseModel", "shortest", "(IIZ)V"⟩, prog_21_method_73_code, 9, none)
theorem cd_Mo_shortest : q_code m_Mo_shortest := sorry
def m_Mo_mayGo : qm := (⟨"DrawingHouseModel", "mayGo", "(I)Z"⟩, prog_21_method_72_code, 2, (some (.boolean)))
theorem cd_Mo_mayGo : q_code m_Mo_mayGo := sorry
def m_Mo_closer : qm := (⟨"DrawingHouseModel", "closer", "(IIIIZ)Z"⟩, prog_21_method_74_code, 6, (some (.boolean)))
theorem cd_Mo_closer : q_code m_Mo_closer := sorry
def m_Mo_edgeOf : qm := (⟨"DrawingHouseModel", "edgeOf", "(II)I"⟩, prog_21_method_70_code, 4, (some (.int)))
theorem cd_Mo_edgeOf : q_code m_Mo_edgeOf := sorry
def m_Mo_drawWay : qm := (⟨"DrawingHouseModel", "drawWay", "()V"⟩, prog_21_method_71_code, 2, none)
theorem cd_Mo_drawWay : q_code m_Mo_drawWay := sorry
def m_Mo_missing : qm := (⟨"DrawingHouseModel", "missing", "()Z"⟩, prog_21_method_69_code, 2, (some (.boolean)))
theorem cd_Mo_missing : q_code m_Mo_missing := sorry
def m_Mo_pieces : qm := (⟨"DrawingHouseModel", "pieces", "()V"⟩, prog_21_method_75_code, 5, none)
theorem cd_Mo_pieces : q_code m_Mo_pieces := sorry
def m_Mo_shareNew : qm := (⟨"DrawingHouseModel", "shareNew", "(II)Z"⟩, prog_21_method_76_code, 5, (some (.boolean)))
theorem cd_Mo_shareNew : q_code m_Mo_shareNew := sorry
def m_Mo_bits : qm := (⟨"DrawingHouseModel", "bits", "()V"⟩, prog_21_method_79_code, 3, none)
theorem cd_Mo_bits : q_code m_Mo_bits := sorry
def m_Mo_choose : qm := (⟨"DrawingHouseModel", "choose", "()I"⟩, prog_21_method_81_code, 6, (some (.int)))
theorem cd_Mo_choose : q_code m_Mo_choose := sorry
def m_Mo_fitsFace : qm := (⟨"DrawingHouseModel", "fitsFace", "(II)Z"⟩, prog_21_method_78_code, 3, (some (.boolean)))
theorem cd_Mo_fitsFace : q_code m_Mo_fitsFace := sorry
def m_Mo_firstFit : qm := (⟨"DrawingHouseModel", "firstFit", "(I)I"⟩, prog_21_method_80_code, 3, (some (.int)))
theorem cd_Mo_firstFit : q_code m_Mo_firstFit := sorry
def m_Mo_wayOf : qm := (⟨"DrawingHouseModel", "wayOf", "(I)V"⟩, prog_21_method_82_code, 7, none)
theorem cd_Mo_wayOf : q_code m_Mo_wayOf := sorry
def m_Mo_isEnd : qm := (⟨"DrawingHouseModel", "isEnd", "(II)Z"⟩, prog_21_method_77_code, 3, (some (.boolean)))
theorem cd_Mo_isEnd : q_code m_Mo_isEnd := sorry
def m_Mo_split : qm := (⟨"DrawingHouseModel", "split", "(I)V"⟩, prog_21_method_83_code, 7, none)
theorem cd_Mo_split : q_code m_Mo_split := sorry
def m_Mo_turnRound : qm := (⟨"DrawingHouseModel", "turnRound", "(II)V"⟩, prog_21_method_85_code, 5, none)
theorem cd_Mo_turnRound : q_code m_Mo_turnRound := sorry
def m_Mo_behind : qm := (⟨"DrawingHouseModel", "behind", "(II)I"⟩, prog_21_method_86_code, 6, (some (.int)))
theorem cd_Mo_behind : q_code m_Mo_behind := sorry
def m_Mo_isPlanar : qm := (⟨"DrawingHouseModel", "isPlanar", "()Z"⟩, prog_21_method_91_code, 1, (some (.boolean)))
theorem cd_Mo_isPlanar : q_code m_Mo_isPlanar := sorry
def m_Mo_goRound : qm := (⟨"DrawingHouseModel", "goRound", "()V"⟩, prog_21_method_90_code, 4, none)
theorem cd_Mo_goRound : q_code m_Mo_goRound := sorry
def m_Mo_nextDart : qm := (⟨"DrawingHouseModel", "nextDart", "(I)I"⟩, prog_21_method_89_code, 6, (some (.int)))
theorem cd_Mo_nextDart : q_code m_Mo_nextDart := sorry
def m_Mo_toOf : qm := (⟨"DrawingHouseModel", "toOf", "(I)I"⟩, prog_21_method_88_code, 2, (some (.int)))
theorem cd_Mo_toOf : q_code m_Mo_toOf := sorry
def m_Mo_bar : qm := (⟨"DrawingHouseModel", "bar", "()V"⟩, prog_21_method_93_code, 5, none)
theorem cd_Mo_bar : q_code m_Mo_bar := sorry
def m_Mo_turn : qm := (⟨"DrawingHouseModel", "turn", "(IIII)I"⟩, prog_21_method_95_code, 6, (some (.int)))
theorem cd_Mo_turn : q_code m_Mo_turn := sorry
def m_Mo_fromOf : qm := (⟨"DrawingHouseModel", "fromOf", "(I)I"⟩, prog_21_method_87_code, 2, (some (.int)))
theorem cd_Mo_fromOf : q_code m_Mo_fromOf := sorry
def m_Mo_count : qm := (⟨"DrawingHouseModel", "count", "(II)I"⟩, prog_21_method_98_code, 3, (some (.int)))
theorem cd_Mo_count : q_code m_Mo_count := sorry
def m_Mo_parts : qm := (⟨"DrawingHouseModel", "parts", "()I"⟩, prog_21_method_51_code, 4, (some (.int)))
theorem cd_Mo_parts : q_code m_Mo_parts := sorry
def m_Mo_farFrom : qm := (⟨"DrawingHouseModel", "farFrom", "(I)V"⟩, prog_21_method_50_code, 6, none)
theorem cd_Mo_farFrom : q_code m_Mo_farFrom := sorry
def m_Mo_strong : qm := (⟨"DrawingHouseModel", "strong", "(Z)I"⟩, prog_21_method_53_code, 5, (some (.int)))
theorem cd_Mo_strong : q_code m_Mo_strong := sorry
def m_Mo_reaching : qm := (⟨"DrawingHouseModel", "reaching", "(Z)V"⟩, prog_21_method_52_code, 6, none)
theorem cd_Mo_reaching : q_code m_Mo_reaching := sorry
def m_Mo_one : qm := (⟨"DrawingHouseModel", "one", "(I)I"⟩, prog_21_method_17_code, 2, (some (.int)))
theorem cd_Mo_one : q_code m_Mo_one := sorry
def m_Mo_node : qm := (⟨"DrawingHouseModel", "node", "(III)I"⟩, prog_21_method_99_code, 7, (some (.int)))
theorem cd_Mo_node : q_code m_Mo_node := sorry
def m_Mo_size : qm := (⟨"DrawingHouseModel", "size", "(I)I"⟩, prog_21_method_18_code, 2, (some (.int)))
theorem cd_Mo_size : q_code m_Mo_size := sorry
def m_Mo_groupOf : qm := (⟨"DrawingHouseModel", "groupOf", "(I)I"⟩, prog_21_method_19_code, 2, (some (.int)))
theorem cd_Mo_groupOf : q_code m_Mo_groupOf := sorry
def m_Mo_neighbours : qm := (⟨"DrawingHouseModel", "neighbours", "(I)I"⟩, prog_21_method_54_code, 4, (some (.int)))
theorem cd_Mo_neighbours : q_code m_Mo_neighbours := sorry
def m_Mo_blocksOf : qm := (⟨"DrawingHouseModel", "blocksOf", "(I)I"⟩, prog_21_method_96_code, 6, (some (.int)))
theorem cd_Mo_blocksOf : q_code m_Mo_blocksOf := sorry
def m_Mo_core : qm := (⟨"DrawingHouseModel", "core", "(I)I"⟩, prog_21_method_55_code, 3, (some (.int)))
theorem cd_Mo_core : q_code m_Mo_core := sorry
def m_Mo_isInCore : qm := (⟨"DrawingHouseModel", "isInCore", "(II)Z"⟩, prog_21_method_56_code, 7, (some (.boolean)))
theorem cd_Mo_isInCore : q_code m_Mo_isInCore := sorry
def m_Mo_other : qm := (⟨"DrawingHouseModel", "other", "(II)I"⟩, prog_21_method_21_code, 3, (some (.int)))
theorem cd_Mo_other : q_code m_Mo_other := sorry
def m_Mo_edge : qm := (⟨"DrawingHouseModel", "edge", "(III)I"⟩, prog_21_method_100_code, 5, (some (.int)))
theorem cd_Mo_edge : q_code m_Mo_edge := sorry
def m_Mo_weight : qm := (⟨"DrawingHouseModel", "weight", "(I)I"⟩, prog_21_method_16_code, 2, (some (.int)))
theorem cd_Mo_weight : q_code m_Mo_weight := sorry
def m_Mo_isBridge : qm := (⟨"DrawingHouseModel", "isBridge", "(I)Z"⟩, prog_21_method_97_code, 4, (some (.boolean)))
theorem cd_Mo_isBridge : q_code m_Mo_isBridge := sorry
def m_Mo_group : qm := (⟨"DrawingHouseModel", "group", "(III)I"⟩, prog_21_method_103_code, 4, (some (.int)))
theorem cd_Mo_group : q_code m_Mo_group := sorry
def m_Mo_sizeOfGroup : qm := (⟨"DrawingHouseModel", "sizeOfGroup", "(I)I"⟩, prog_21_method_102_code, 4, (some (.int)))
theorem cd_Mo_sizeOfGroup : q_code m_Mo_sizeOfGroup := sorry
def m_Mo_isWithin : qm := (⟨"DrawingHouseModel", "isWithin", "(II)Z"⟩, prog_21_method_101_code, 4, (some (.boolean)))
theorem cd_Mo_isWithin : q_code m_Mo_isWithin := sorry
def m_Mo_letter : qm := (⟨"DrawingHouseModel", "letter", "(IIII)I"⟩, prog_21_method_104_code, 5, (some (.int)))
theorem cd_Mo_letter : q_code m_Mo_letter := sorry
def m_Mo_far : qm := (⟨"DrawingHouseModel", "far", "(III)I"⟩, prog_21_method_105_code, 4, (some (.int)))
theorem cd_Mo_far : q_code m_Mo_far := sorry
def m_Mo_draw : qm := (⟨"DrawingHouseModel", "draw", "(III)I"⟩, prog_21_method_107_code, 5, (some (.int)))
theorem cd_Mo_draw : q_code m_Mo_draw := sorry
def m_Mo_layers : qm := (⟨"DrawingHouseModel", "layers", "(I)I"⟩, prog_21_method_124_code, 10, (some (.int)))
theorem cd_Mo_layers : q_code m_Mo_layers := sorry
def m_Mo_turnEdges : qm := (⟨"DrawingHouseModel", "turnEdges", "()V"⟩, prog_21_method_117_code, 4, none)
theorem cd_Mo_turnEdges : q_code m_Mo_turnEdges := sorry
def m_Mo_bestOrder : qm := (⟨"DrawingHouseModel", "bestOrder", "()V"⟩, prog_21_method_119_code, 8, none)
theorem cd_Mo_bestOrder : q_code m_Mo_bestOrder := sorry
def m_Mo_isMember : qm := (⟨"DrawingHouseModel", "isMember", "(I)Z"⟩, prog_21_method_116_code, 3, (some (.boolean)))
theorem cd_Mo_isMember : q_code m_Mo_isMember := sorry
def m_Mo_greedyOrder : qm := (⟨"DrawingHouseModel", "greedyOrder", "()V"⟩, prog_21_method_121_code, 13, none)
theorem cd_Mo_greedyOrder : q_code m_Mo_greedyOrder := sorry
def m_Mo_placeIn : qm := (⟨"DrawingHouseModel", "placeIn", "(I)I"⟩, prog_21_method_118_code, 3, (some (.int)))
theorem cd_Mo_placeIn : q_code m_Mo_placeIn := sorry
def m_Mo_from : qm := (⟨"DrawingHouseModel", "from", "(I)I"⟩, prog_21_method_122_code, 2, (some (.int)))
theorem cd_Mo_from : q_code m_Mo_from := sorry
def m_Mo_to : qm := (⟨"DrawingHouseModel", "to", "(I)I"⟩, prog_21_method_123_code, 2, (some (.int)))
theorem cd_Mo_to : q_code m_Mo_to := sorry
def m_Mo_cost : qm := (⟨"DrawingHouseModel", "cost", "(IIIZ)V"⟩, prog_21_method_111_code, 5, none)
theorem cd_Mo_cost : q_code m_Mo_cost := sorry
def m_Mo_apart : qm := (⟨"DrawingHouseModel", "apart", "(III)V"⟩, prog_21_method_112_code, 4, none)
theorem cd_Mo_apart : q_code m_Mo_apart := sorry
def m_Mo_rise : qm := (⟨"DrawingHouseModel", "rise", "()V"⟩, prog_21_method_113_code, 7, none)
theorem cd_Mo_rise : q_code m_Mo_rise := sorry
def m_Mo_up : qm := (⟨"DrawingHouseModel", "up", "()I"⟩, prog_21_method_114_code, 8, (some (.int)))
theorem cd_Mo_up : q_code m_Mo_up := sorry
def m_Mo_augment : qm := (⟨"DrawingHouseModel", "augment", "(III)Z"⟩, prog_21_method_115_code, 8, (some (.boolean)))
theorem cd_Mo_augment : q_code m_Mo_augment := sorry
def m_Mo_list : qm := (⟨"DrawingHouseModel", "list", "(I)V"⟩, prog_21_method_125_code, 5, none)
theorem cd_Mo_list : q_code m_Mo_list := sorry
def m_Mo_line : qm := (⟨"DrawingHouseModel", "line", "(II)V"⟩, prog_21_method_126_code, 3, none)
theorem cd_Mo_line : q_code m_Mo_line := sorry
def m_Mo_max : qm := (⟨"DrawingHouseModel", "max", "(II)I"⟩, prog_21_method_4_code, 2, (some (.int)))
theorem cd_Mo_max : q_code m_Mo_max := sorry
def m_Mo_isSmall : qm := (⟨"DrawingHouseModel", "isSmall", "()Z"⟩, prog_21_method_127_code, 2, (some (.boolean)))
theorem cd_Mo_isSmall : q_code m_Mo_isSmall := sorry
def m_Mo_exactOrders : qm := (⟨"DrawingHouseModel", "exactOrders", "()I"⟩, prog_21_method_133_code, 7, (some (.int)))
theorem cd_Mo_exactOrders : q_code m_Mo_exactOrders := sorry
def m_Mo_placeOf : qm := (⟨"DrawingHouseModel", "placeOf", "(I)I"⟩, prog_21_method_128_code, 4, (some (.int)))
theorem cd_Mo_placeOf : q_code m_Mo_placeOf := sorry
def m_Mo_weigh : qm := (⟨"DrawingHouseModel", "weigh", "(II)V"⟩, prog_21_method_131_code, 6, none)
theorem cd_Mo_weigh : q_code m_Mo_weigh := sorry
def m_Mo_weighed : qm := (⟨"DrawingHouseModel", "weighed", "(II)I"⟩, prog_21_method_132_code, 7, (some (.int)))
theorem cd_Mo_weighed : q_code m_Mo_weighed := sorry
def m_Mo_setOrder : qm := (⟨"DrawingHouseModel", "setOrder", "(II)V"⟩, prog_21_method_134_code, 5, none)
theorem cd_Mo_setOrder : q_code m_Mo_setOrder := sorry
def m_Mo_sweeps : qm := (⟨"DrawingHouseModel", "sweeps", "()I"⟩, prog_21_method_135_code, 6, (some (.int)))
theorem cd_Mo_sweeps : q_code m_Mo_sweeps := sorry
def m_Mo_crossings : qm := (⟨"DrawingHouseModel", "crossings", "()I"⟩, prog_21_method_129_code, 6, (some (.int)))
theorem cd_Mo_crossings : q_code m_Mo_crossings := sorry
def m_Mo_byMeans : qm := (⟨"DrawingHouseModel", "byMeans", "(IZ)V"⟩, prog_21_method_136_code, 11, none)
theorem cd_Mo_byMeans : q_code m_Mo_byMeans := sorry
def m_Mo_across_1 : qm := (⟨"DrawingHouseModel", "across", "()V"⟩, prog_21_method_138_code, 5, none)
theorem cd_Mo_across_1 : q_code m_Mo_across_1 := sorry
def m_Mo_halfOf : qm := (⟨"DrawingHouseModel", "halfOf", "(I)I"⟩, prog_21_method_137_code, 2, (some (.int)))
theorem cd_Mo_halfOf : q_code m_Mo_halfOf := sorry
def m_Mo_grid : qm := (⟨"DrawingHouseModel", "grid", "()I"⟩, prog_21_method_143_code, 7, (some (.int)))
theorem cd_Mo_grid : q_code m_Mo_grid := sorry
def m_Mo_apartNode : qm := (⟨"DrawingHouseModel", "apartNode", "()I"⟩, prog_21_method_144_code, 2, (some (.int)))
theorem cd_Mo_apartNode : q_code m_Mo_apartNode := sorry
def m_Mo_newLine : qm := (⟨"DrawingHouseModel", "newLine", "(II)I"⟩, prog_21_method_142_code, 3, (some (.int)))
theorem cd_Mo_newLine : q_code m_Mo_newLine := sorry
def m_Mo_putAt : qm := (⟨"DrawingHouseModel", "putAt", "(III)V"⟩, prog_21_method_141_code, 5, none)
theorem cd_Mo_putAt : q_code m_Mo_putAt := sorry
def m_Mo_cut : qm := (⟨"DrawingHouseModel", "cut", "()Z"⟩, prog_21_method_145_code, 9, (some (.boolean)))
theorem cd_Mo_cut : q_code m_Mo_cut := sorry
def m_Mo_putAhead : qm := (⟨"DrawingHouseModel", "putAhead", "(III)V"⟩, prog_21_method_139_code, 5, none)
theorem cd_Mo_putAhead : q_code m_Mo_putAhead := sorry
def m_Mo_putBehind : qm := (⟨"DrawingHouseModel", "putBehind", "(III)V"⟩, prog_21_method_140_code, 5, none)
theorem cd_Mo_putBehind : q_code m_Mo_putBehind := sorry
def m_Mo_canonical : qm := (⟨"DrawingHouseModel", "canonical", "(III)V"⟩, prog_21_method_146_code, 7, none)
theorem cd_Mo_canonical : q_code m_Mo_canonical := sorry
def m_Mo_mayLeave : qm := (⟨"DrawingHouseModel", "mayLeave", "(I)Z"⟩, prog_21_method_147_code, 4, (some (.boolean)))
theorem cd_Mo_mayLeave : q_code m_Mo_mayLeave := sorry
def m_Mo_reveal : qm := (⟨"DrawingHouseModel", "reveal", "(II)V"⟩, prog_21_method_148_code, 10, none)
theorem cd_Mo_reveal : q_code m_Mo_reveal := sorry
def m_Mo_shift : qm := (⟨"DrawingHouseModel", "shift", "()V"⟩, prog_21_method_149_code, 12, none)
theorem cd_Mo_shift : q_code m_Mo_shift := sorry
def m_Mo_move : qm := (⟨"DrawingHouseModel", "move", "(II)V"⟩, prog_21_method_150_code, 4, none)
theorem cd_Mo_move : q_code m_Mo_move := sorry
def m_Mo_bars : qm := (⟨"DrawingHouseModel", "bars", "(I)I"⟩, prog_21_method_151_code, 8, (some (.int)))
theorem cd_Mo_bars : q_code m_Mo_bars := sorry
def m_Mo_stOrder : qm := (⟨"DrawingHouseModel", "stOrder", "()V"⟩, prog_21_method_156_code, 6, none)
theorem cd_Mo_stOrder : q_code m_Mo_stOrder := sorry
def m_Mo_insert : qm := (⟨"DrawingHouseModel", "insert", "(I)V"⟩, prog_21_method_158_code, 7, none)
theorem cd_Mo_insert : q_code m_Mo_insert := sorry
def m_Mo_rowPlace : qm := (⟨"DrawingHouseModel", "rowPlace", "(I)I"⟩, prog_21_method_157_code, 3, (some (.int)))
theorem cd_Mo_rowPlace : q_code m_Mo_rowPlace := sorry
def m_Mo_low : qm := (⟨"DrawingHouseModel", "low", "(I)I"⟩, prog_21_method_152_code, 2, (some (.int)))
theorem cd_Mo_low : q_code m_Mo_low := sorry
def m_Mo_dart : qm := (⟨"DrawingHouseModel", "dart", "(I)I"⟩, prog_21_method_153_code, 2, (some (.int)))
theorem cd_Mo_dart : q_code m_Mo_dart := sorry
def m_Mo_middle : qm := (⟨"DrawingHouseModel", "middle", "(I)V"⟩, prog_21_method_155_code, 5, none)
theorem cd_Mo_middle : q_code m_Mo_middle := sorry
def m_Mo_barX : qm := (⟨"DrawingHouseModel", "barX", "(I)I"⟩, prog_21_method_154_code, 2, (some (.int)))
theorem cd_Mo_barX : q_code m_Mo_barX := sorry
def m_Mo_tree : qm := (⟨"DrawingHouseModel", "tree", "(I)I"⟩, prog_21_method_159_code, 9, (some (.int)))
theorem cd_Mo_tree : q_code m_Mo_tree := sorry
def m_Mo_hangs : qm := (⟨"DrawingHouseModel", "hangs", "(II)V"⟩, prog_21_method_160_code, 3, none)
theorem cd_Mo_hangs : q_code m_Mo_hangs := sorry
def m_Mo_children : qm := (⟨"DrawingHouseModel", "children", "(I)V"⟩, prog_21_method_162_code, 5, none)
theorem cd_Mo_children : q_code m_Mo_children := sorry
def m_Mo_nearer : qm := (⟨"DrawingHouseModel", "nearer", "(III)V"⟩, prog_21_method_163_code, 9, none)
theorem cd_Mo_nearer : q_code m_Mo_nearer := sorry
def m_Mo_isUnder : qm := (⟨"DrawingHouseModel", "isUnder", "(II)Z"⟩, prog_21_method_161_code, 4, (some (.boolean)))
theorem cd_Mo_isUnder : q_code m_Mo_isUnder := sorry
def m_Mo_isAhead : qm := (⟨"DrawingHouseModel", "isAhead", "(III)Z"⟩, prog_21_method_164_code, 5, (some (.boolean)))
theorem cd_Mo_isAhead : q_code m_Mo_isAhead := sorry
def m_Mo_areas : qm := (⟨"DrawingHouseModel", "areas", "(II)I"⟩, prog_21_method_165_code, 5, (some (.int)))
theorem cd_Mo_areas : q_code m_Mo_areas := sorry
def m_Mo_setBox : qm := (⟨"DrawingHouseModel", "setBox", "(IIZIIII)V"⟩, prog_21_method_166_code, 10, none)
theorem cd_Mo_setBox : q_code m_Mo_setBox := sorry
def m_Mo_gather : qm := (⟨"DrawingHouseModel", "gather", "(I)V"⟩, prog_21_method_167_code, 3, none)
theorem cd_Mo_gather : q_code m_Mo_gather := sorry
def m_Mo_gatherOne : qm := (⟨"DrawingHouseModel", "gatherOne", "(II)V"⟩, prog_21_method_168_code, 4, none)
theorem cd_Mo_gatherOne : q_code m_Mo_gatherOne := sorry
def m_Mo_squares : qm := (⟨"DrawingHouseModel", "squares", "(IIIII)V"⟩, prog_21_method_170_code, 23, none)
theorem cd_Mo_squares : q_code m_Mo_squares := sorry
def m_Mo_worst : qm := (⟨"DrawingHouseModel", "worst", "(IIIIII)V"⟩, prog_21_method_169_code, 20, none)
theorem cd_Mo_worst : q_code m_Mo_worst := sorry
def m_Mo_ring : qm := (⟨"DrawingHouseModel", "ring", "(I)I"⟩, prog_21_method_172_code, 8, (some (.int)))
theorem cd_Mo_ring : q_code m_Mo_ring := sorry
def m_Mo_chordCrossings : qm := (⟨"DrawingHouseModel", "chordCrossings", "(I)I"⟩, prog_21_method_171_code, 9, (some (.int)))
theorem cd_Mo_chordCrossings : q_code m_Mo_chordCrossings := sorry
def m_Mo_putBest : qm := (⟨"DrawingHouseModel", "putBest", "(II)V"⟩, prog_21_method_173_code, 9, none)
theorem cd_Mo_putBest : q_code m_Mo_putBest := sorry
def m_Mo_forces : qm := (⟨"DrawingHouseModel", "forces", "(I)I"⟩, prog_21_method_175_code, 7, (some (.int)))
theorem cd_Mo_forces : q_code m_Mo_forces := sorry
def m_Mo_pull : qm := (⟨"DrawingHouseModel", "pull", "(II)V"⟩, prog_21_method_177_code, 13, none)
theorem cd_Mo_pull : q_code m_Mo_pull := sorry
def m_Mo_rootOf : qm := (⟨"DrawingHouseModel", "rootOf", "(J)J"⟩, prog_21_method_174_code, 6, (some (.long)))
theorem cd_Mo_rootOf : q_code m_Mo_rootOf := sorry
def m_Mo_bounded : qm := (⟨"DrawingHouseModel", "bounded", "(JJ)J"⟩, prog_21_method_176_code, 4, (some (.long)))
theorem cd_Mo_bounded : q_code m_Mo_bounded := sorry
def m_Mo_matrix : qm := (⟨"DrawingHouseModel", "matrix", "(I)I"⟩, prog_21_method_178_code, 7, (some (.int)))
theorem cd_Mo_matrix : q_code m_Mo_matrix := sorry
def m_Mo_fewest : qm := (⟨"DrawingHouseModel", "fewest", "(I)I"⟩, prog_21_method_179_code, 4, (some (.int)))
theorem cd_Mo_fewest : q_code m_Mo_fewest := sorry
def m_Mo_keep : qm := (⟨"DrawingHouseModel", "keep", "(II)V"⟩, prog_21_method_106_code, 5, none)
theorem cd_Mo_keep : q_code m_Mo_keep := sorry
def m_Mo_at_1 : qm := (⟨"DrawingHouseModel", "at", "(IIII)I"⟩, prog_21_method_108_code, 6, (some (.int)))
theorem cd_Mo_at_1 : q_code m_Mo_at_1 := sorry
def m_Mo_told : qm := (⟨"DrawingHouseModel", "told", "(III)I"⟩, prog_21_method_109_code, 6, (some (.int)))
theorem cd_Mo_told : q_code m_Mo_told := sorry
def m_Mo_put : qm := (⟨"DrawingHouseModel", "put", "(IIIII)Z"⟩, prog_21_method_110_code, 6, (some (.boolean)))
theorem cd_Mo_put : q_code m_Mo_put := sorry
def m_Mo_route : qm := (⟨"DrawingHouseModel", "route", "(II)I"⟩, prog_21_method_187_code, 7, (some (.int)))
theorem cd_Mo_route : q_code m_Mo_route := sorry
def m_Mo_isDrawn : qm := (⟨"DrawingHouseModel", "isDrawn", "(I)Z"⟩, prog_21_method_180_code, 2, (some (.boolean)))
theorem cd_Mo_isDrawn : q_code m_Mo_isDrawn := sorry
def m_Mo_px : qm := (⟨"DrawingHouseModel", "px", "(I)I"⟩, prog_21_method_181_code, 2, (some (.int)))
theorem cd_Mo_px : q_code m_Mo_px := sorry
def m_Mo_py : qm := (⟨"DrawingHouseModel", "py", "(I)I"⟩, prog_21_method_182_code, 2, (some (.int)))
theorem cd_Mo_py : q_code m_Mo_py := sorry
def m_Mo_isBarred : qm := (⟨"DrawingHouseModel", "isBarred", "(III)Z"⟩, prog_21_method_188_code, 5, (some (.boolean)))
theorem cd_Mo_isBarred : q_code m_Mo_isBarred := sorry
def m_Mo_isInBox : qm := (⟨"DrawingHouseModel", "isInBox", "(III)Z"⟩, prog_21_method_186_code, 5, (some (.boolean)))
theorem cd_Mo_isInBox : q_code m_Mo_isInBox := sorry
def m_Mo_spread : qm := (⟨"DrawingHouseModel", "spread", "(I)V"⟩, prog_21_method_192_code, 7, none)
theorem cd_Mo_spread : q_code m_Mo_spread := sorry
def m_Mo_reached : qm := (⟨"DrawingHouseModel", "reached", "(II)V"⟩, prog_21_method_193_code, 4, none)
theorem cd_Mo_reached : q_code m_Mo_reached := sorry
def m_Mo_backFrom : qm := (⟨"DrawingHouseModel", "backFrom", "(II)V"⟩, prog_21_method_194_code, 9, none)
theorem cd_Mo_backFrom : q_code m_Mo_backFrom := sorry
def m_Mo_dx : qm := (⟨"DrawingHouseModel", "dx", "(I)I"⟩, prog_21_method_190_code, 1, (some (.int)))
theorem cd_Mo_dx : q_code m_Mo_dx := sorry
def m_Mo_dy : qm := (⟨"DrawingHouseModel", "dy", "(I)I"⟩, prog_21_method_191_code, 1, (some (.int)))
theorem cd_Mo_dy : q_code m_Mo_dy := sorry
def m_Mo_bendsBecome : qm := (⟨"DrawingHouseModel", "bendsBecome", "(IIII)I"⟩, prog_21_method_195_code, 15, (some (.int)))
theorem cd_Mo_bendsBecome : q_code m_Mo_bendsBecome := sorry
def m_Mo_stepTo : qm := (⟨"DrawingHouseModel", "stepTo", "(II)I"⟩, prog_21_method_189_code, 6, (some (.int)))
theorem cd_Mo_stepTo : q_code m_Mo_stepTo := sorry
def m_Mo_label : qm := (⟨"DrawingHouseModel", "label", "(III)I"⟩, prog_21_method_196_code, 5, (some (.int)))
theorem cd_Mo_label : q_code m_Mo_label := sorry
def m_Mo_finds : qm := (⟨"DrawingHouseModel", "finds", "(I)Z"⟩, prog_21_method_197_code, 7, (some (.boolean)))
theorem cd_Mo_finds : q_code m_Mo_finds := sorry
def m_Mo_pointsOf : qm := (⟨"DrawingHouseModel", "pointsOf", "(I)I"⟩, prog_21_method_183_code, 2, (some (.int)))
theorem cd_Mo_pointsOf : q_code m_Mo_pointsOf := sorry
def m_Mo_ex : qm := (⟨"DrawingHouseModel", "ex", "(II)I"⟩, prog_21_method_184_code, 3, (some (.int)))
theorem cd_Mo_ex : q_code m_Mo_ex := sorry
def m_Mo_ey : qm := (⟨"DrawingHouseModel", "ey", "(II)I"⟩, prog_21_method_185_code, 3, (some (.int)))
theorem cd_Mo_ey : q_code m_Mo_ey := sorry
def m_Mo_judge : qm := (⟨"DrawingHouseModel", "judge", "(II)J"⟩, prog_21_method_205_code, 9, (some (.long)))
theorem cd_Mo_judge : q_code m_Mo_judge := sorry
def m_Mo_meets : qm := (⟨"DrawingHouseModel", "meets", "(IIII)Z"⟩, prog_21_method_201_code, 29, (some (.boolean)))
theorem cd_Mo_meets : q_code m_Mo_meets := sorry
def m_Mo_turnOf : qm := (⟨"DrawingHouseModel", "turnOf", "(JJJJJJ)J"⟩, prog_21_method_198_code, 12, (some (.long)))
theorem cd_Mo_turnOf : q_code m_Mo_turnOf := sorry
def m_Mo_signOf : qm := (⟨"DrawingHouseModel", "signOf", "(J)I"⟩, prog_21_method_199_code, 2, (some (.int)))
theorem cd_Mo_signOf : q_code m_Mo_signOf := sorry
def m_Mo_crossAtShared : qm := (⟨"DrawingHouseModel", "crossAtShared", "(IIJJJJJJJJ)Z"⟩, prog_21_method_202_code, 20, (some (.boolean)))
theorem cd_Mo_crossAtShared : q_code m_Mo_crossAtShared := sorry
def m_Mo_isOn : qm := (⟨"DrawingHouseModel", "isOn", "(JJJJJJ)Z"⟩, prog_21_method_200_code, 12, (some (.boolean)))
theorem cd_Mo_isOn : q_code m_Mo_isOn := sorry
def m_Mo_isShared : qm := (⟨"DrawingHouseModel", "isShared", "(IIJJ)Z"⟩, prog_21_method_204_code, 8, (some (.boolean)))
theorem cd_Mo_isShared : q_code m_Mo_isShared := sorry
def m_Mo_isLonger : qm := (⟨"DrawingHouseModel", "isLonger", "(JJJJJJJJ)Z"⟩, prog_21_method_203_code, 20, (some (.boolean)))
theorem cd_Mo_isLonger : q_code m_Mo_isLonger := sorry
def m_Mo_touch : qm := (⟨"DrawingHouseModel", "touch", "(II)Z"⟩, prog_21_method_206_code, 7, (some (.boolean)))
theorem cd_Mo_touch : q_code m_Mo_touch := sorry
def m_Mo_areaOf : qm := (⟨"DrawingHouseModel", "areaOf", "()J"⟩, prog_21_method_210_code, 1, (some (.long)))
theorem cd_Mo_areaOf : q_code m_Mo_areaOf := sorry
def m_Mo_bounds : qm := (⟨"DrawingHouseModel", "bounds", "()V"⟩, prog_21_method_208_code, 3, none)
theorem cd_Mo_bounds : q_code m_Mo_bounds := sorry
def m_Mo_bound : qm := (⟨"DrawingHouseModel", "bound", "(II)V"⟩, prog_21_method_209_code, 3, none)
theorem cd_Mo_bound : q_code m_Mo_bound := sorry
def m_Mo_leastTriangle : qm := (⟨"DrawingHouseModel", "leastTriangle", "()J"⟩, prog_21_method_211_code, 8, (some (.long)))
theorem cd_Mo_leastTriangle : q_code m_Mo_leastTriangle := sorry
def m_Mo_ofEdge : qm := (⟨"DrawingHouseModel", "ofEdge", "(II)J"⟩, prog_21_method_207_code, 11, (some (.long)))
theorem cd_Mo_ofEdge : q_code m_Mo_ofEdge := sorry
def m_Mo_style : qm := (⟨"DrawingHouseModel", "style", "(II)I"⟩, prog_21_method_217_code, 6, (some (.int)))
theorem cd_Mo_style : q_code m_Mo_style := sorry
def m_Mo_styleTokens : qm := (⟨"DrawingHouseModel", "styleTokens", "(I)V"⟩, prog_21_method_212_code, 9, none)
theorem cd_Mo_styleTokens : q_code m_Mo_styleTokens := sorry
def m_Mo_rule : qm := (⟨"DrawingHouseModel", "rule", "()V"⟩, prog_21_method_219_code, 6, none)
theorem cd_Mo_rule : q_code m_Mo_rule := sorry
def m_Mo_word : qm := (⟨"DrawingHouseModel", "word", "(Ljava/lang/String;)Z"⟩, prog_21_method_213_code, 4, (some (.boolean)))
theorem cd_Mo_word : q_code m_Mo_word := sorry
def m_Mo_test : qm := (⟨"DrawingHouseModel", "test", "()Z"⟩, prog_21_method_221_code, 3, (some (.boolean)))
theorem cd_Mo_test : q_code m_Mo_test := sorry
def m_Mo_both : qm := (⟨"DrawingHouseModel", "both", "()Z"⟩, prog_21_method_222_code, 3, (some (.boolean)))
theorem cd_Mo_both : q_code m_Mo_both := sorry
def m_Mo_oneTest : qm := (⟨"DrawingHouseModel", "oneTest", "()Z"⟩, prog_21_method_223_code, 6, (some (.boolean)))
theorem cd_Mo_oneTest : q_code m_Mo_oneTest := sorry
def m_Mo_styleOpen : qm := (⟨"DrawingHouseModel", "styleOpen", "()V"⟩, prog_21_method_216_code, 1, none)
theorem cd_Mo_styleOpen : q_code m_Mo_styleOpen := sorry
def m_Mo_styleSign : qm := (⟨"DrawingHouseModel", "styleSign", "(I)Z"⟩, prog_21_method_214_code, 2, (some (.boolean)))
theorem cd_Mo_styleSign : q_code m_Mo_styleSign := sorry
def m_Mo_styleNeed : qm := (⟨"DrawingHouseModel", "styleNeed", "(I)V"⟩, prog_21_method_215_code, 2, none)
theorem cd_Mo_styleNeed : q_code m_Mo_styleNeed := sorry
def m_Mo_sum : qm := (⟨"DrawingHouseModel", "sum", "()J"⟩, prog_21_method_224_code, 6, (some (.long)))
theorem cd_Mo_sum : q_code m_Mo_sum := sorry
def m_Mo_product : qm := (⟨"DrawingHouseModel", "product", "()J"⟩, prog_21_method_225_code, 6, (some (.long)))
theorem cd_Mo_product : q_code m_Mo_product := sorry
def m_Mo_styleValue : qm := (⟨"DrawingHouseModel", "styleValue", "()J"⟩, prog_21_method_226_code, 3, (some (.long)))
theorem cd_Mo_styleValue : q_code m_Mo_styleValue := sorry
def m_Mo_nodeWord : qm := (⟨"DrawingHouseModel", "nodeWord", "()I"⟩, prog_21_method_227_code, 1, (some (.int)))
theorem cd_Mo_nodeWord : q_code m_Mo_nodeWord := sorry
def m_Mo_edgeWord : qm := (⟨"DrawingHouseModel", "edgeWord", "()I"⟩, prog_21_method_228_code, 1, (some (.int)))
theorem cd_Mo_edgeWord : q_code m_Mo_edgeWord := sorry
def m_Mo_ofNode : qm := (⟨"DrawingHouseModel", "ofNode", "(I)J"⟩, prog_21_method_229_code, 6, (some (.long)))
theorem cd_Mo_ofNode : q_code m_Mo_ofNode := sorry
def m_Mo_ofEdgeWord : qm := (⟨"DrawingHouseModel", "ofEdgeWord", "(I)J"⟩, prog_21_method_230_code, 3, (some (.long)))
theorem cd_Mo_ofEdgeWord : q_code m_Mo_ofEdgeWord := sorry
def m_Mo_comma : qm := (⟨"DrawingHouseModel", "comma", "()Z"⟩, prog_21_method_220_code, 1, (some (.boolean)))
theorem cd_Mo_comma : q_code m_Mo_comma := sorry
def m_Mo_prepare : qm := (⟨"DrawingHouseModel", "prepare", "()V"⟩, prog_21_method_218_code, 3, none)
theorem cd_Mo_prepare : q_code m_Mo_prepare := sorry
def m_Mo_shade : qm := (⟨"DrawingHouseModel", "shade", "(IIII)I"⟩, prog_21_method_231_code, 5, (some (.int)))
theorem cd_Mo_shade : q_code m_Mo_shade := sorry
def m_Mo_text : qm := (⟨"DrawingHouseModel", "text", "(II)I"⟩, prog_21_method_240_code, 4, (some (.int)))
theorem cd_Mo_text : q_code m_Mo_text := sorry
def m_Mo_writeGroup : qm := (⟨"DrawingHouseModel", "writeGroup", "(I)V"⟩, prog_21_method_237_code, 3, none)
theorem cd_Mo_writeGroup : q_code m_Mo_writeGroup := sorry
def m_Mo_write_0 : qm := (⟨"DrawingHouseModel", "write", "(Ljava/lang/String;)V"⟩, prog_21_method_233_code, 3, none)
theorem cd_Mo_write_0 : q_code m_Mo_write_0 := sorry
def m_Mo_write_1 : qm := (⟨"DrawingHouseModel", "write", "(I)V"⟩, prog_21_method_232_code, 2, none)
theorem cd_Mo_write_1 : q_code m_Mo_write_1 := sorry
def m_Mo_writeNode : qm := (⟨"DrawingHouseModel", "writeNode", "(I)V"⟩, prog_21_method_236_code, 2, none)
theorem cd_Mo_writeNode : q_code m_Mo_writeNode := sorry
def m_Mo_writeName : qm := (⟨"DrawingHouseModel", "writeName", "(II)V"⟩, prog_21_method_235_code, 4, none)
theorem cd_Mo_writeName : q_code m_Mo_writeName := sorry
def m_Mo_writeNumber : qm := (⟨"DrawingHouseModel", "writeNumber", "(I)V"⟩, prog_21_method_234_code, 6, none)
theorem cd_Mo_writeNumber : q_code m_Mo_writeNumber := sorry
def m_Mo_writeEdges : qm := (⟨"DrawingHouseModel", "writeEdges", "()V"⟩, prog_21_method_238_code, 2, none)
theorem cd_Mo_writeEdges : q_code m_Mo_writeEdges := sorry
def m_Mo_writeDrawing : qm := (⟨"DrawingHouseModel", "writeDrawing", "()V"⟩, prog_21_method_239_code, 3, none)
theorem cd_Mo_writeDrawing : q_code m_Mo_writeDrawing := sorry
def m_Mo_octet : qm := (⟨"DrawingHouseModel", "octet", "(I)I"⟩, prog_21_method_241_code, 2, (some (.int)))
theorem cd_Mo_octet : q_code m_Mo_octet := sorry
def m_Mo_dots : qm := (⟨"DrawingHouseModel", "dots", "(III)I"⟩, prog_21_method_242_code, 6, (some (.int)))
theorem cd_Mo_dots : q_code m_Mo_dots := sorry
def m_Mo_dotX : qm := (⟨"DrawingHouseModel", "dotX", "(I)I"⟩, prog_21_method_243_code, 2, (some (.int)))
theorem cd_Mo_dotX : q_code m_Mo_dotX := sorry
def m_Mo_dotY : qm := (⟨"DrawingHouseModel", "dotY", "(I)I"⟩, prog_21_method_244_code, 2, (some (.int)))
theorem cd_Mo_dotY : q_code m_Mo_dotY := sorry
def m_Mo_dotLine : qm := (⟨"DrawingHouseModel", "dotLine", "(IIIII)V"⟩, prog_21_method_245_code, 10, none)
theorem cd_Mo_dotLine : q_code m_Mo_dotLine := sorry
def m_Mo_dot : qm := (⟨"DrawingHouseModel", "dot", "(II)I"⟩, prog_21_method_246_code, 3, (some (.int)))
theorem cd_Mo_dot : q_code m_Mo_dot := sorry
end
section
/-! ===== helps for the plain rows ===== -/
def up2 (v : Int → Int → Int) (a k z : Int) : Int → Int → Int := fun b j => if b = a ∧ j = k then z else v b j
theorem q_up_mk (n : Nat × Nat × Nat) (v : Int → Int → Int) (a k z : Int) : q_up (n, v) a k z = (n, up2 v a k z) := sorry
def cp2 (v : Int → Int → Int) (a0 a sp dp n : Int) : Int → Int → Int := fun b j => if b = a ∧ dp ≤ j ∧ j < dp + n then v a0 (sp + (j - dp)) else v b j
theorem q_cpy_mk (m : Nat × Nat × Nat) (v : Int → Int → Int) (a0 a sp dp n : Int) : q_cpy (m, v) a0 a sp dp n = (m, cp2 v a0 a sp dp n) := sorry
theorem up2_ap (v : Int → Int → Int) (a k z b j : Int) : up2 v a k z b j = if b = a ∧ j = k then z else v b j := sorry
theorem up2_at (v : Int → Int → Int) (a k z : Int) : up2 v a k z a k = z := sorry
theorem up2_ne {v : Int → Int → Int} {a k z b j : Int} (h : ¬ (b = a ∧ j = k)) : up2 v a k z b j = v b j := sorry
theorem up2_a {v : Int → Int → Int} {a k z b : Int} (h : b ≠ a) : up2 v a k z b = v b := sorry
theorem up2_k {v : Int → Int → Int} {a k z j : Int} (h : j ≠ k) : up2 v a k z a j = v a j := sorry
theorem cp2_a {v : Int → Int → Int} {a0 a sp dp n b : Int} (h : b ≠ a) : cp2 v a0 a sp dp n b = v b := sorry
/-- cells outside the list keep what they hold -/
def Fr (L : List Int) (v v' : Int → Int → Int) : Prop := ∀ a, a ∉ L → v' a = v a
theorem Fr.rf {L : List Int} {v : Int → Int → Int} : Fr L v v := sorry
theorem Fr.tr {L : List Int} {v v' v'' : Int → Int → Int} (h1 : Fr L v v') (h2 : Fr L v' v'') : Fr L v v'' := sorry
theorem Fr.up {L : List Int} {v v' : Int → Int → Int} {a k z : Int} (h : Fr L v v') (ha : a ∈ L) : Fr L v (up2 v' a k z) := sorry
theorem Fr.wk {L L' : List Int} {v v' : Int → Int → Int} (h : Fr L v v') (hs : ∀ a, a ∈ L → a ∈ L') : Fr L' v v' := sorry
theorem up_loop {P : Int → Prop} (hi : Int) (hend : P hi) (hstep : ∀ e, e < hi → P (e + 1) → P e) : ∀ e, e ≤ hi → P e := sorry
theorem dn_loop {P : Int → Prop} (lo : Int) (hend : P lo) (hstep : ∀ e, lo < e → P (e - 1) → P e) : ∀ e, lo ≤ e → P e := sorry
set_option maxRecDepth 100000 in
theorem qM.o0 {l : Launch} {D : qD} {M : qm} {d0 : Nat} {as : List qv} {h : qh} {Q : qQ} (N : Nat) (hN : M.2.2.1 = N) (hp : plainName M.1.cls = true) (hlen : (q_ent as).length ≤ N)
    (k : qR l D (d0, 0, 0) M 0 (fun r h' => Q r ((h'.1.1, h.1.2.1, h.1.2.2), h'.2)) (q_ent as ++ List.replicate (N - (q_ent as).length) none) [] ((h.1.1, 0, 0), h.2)) : qM l D (d0, 0, 0) M as h Q := sorry
/-- a Graph and its arrays by their shapes -/
def isG (g : Int) : Prop := 0 ≤ g ∧ q_shp g = (3, 0) ∧ q_shp (g + 1) = (101, 192) ∧ q_shp (g + 2) = (101, 64) ∧ q_shp (g + 3) = (100, 24) ∧ q_shp (g + 4) = (100, 24) ∧ q_shp (g + 5) = (100, 24) ∧ q_shp (g + 6) = (100, 48) ∧ q_shp (g + 7) = (100, 48) ∧ q_shp (g + 8) = (100, 48) ∧ q_shp (g + 9) = (102, 48) ∧ q_shp (g + 10) = (100, 8) ∧ q_shp (g + 11) = (100, 8)
/-- a Graph's fields hold its arrays -/
def GA (v : Int → Int → Int) (g : Int) : Prop := v g 3 = g + 1 ∧ v g 4 = g + 2 ∧ v g 5 = g + 3 ∧ v g 6 = g + 4 ∧ v g 7 = g + 5 ∧ v g 8 = g + 6 ∧ v g 9 = g + 7 ∧ v g 10 = g + 8 ∧ v g 11 = g + 9 ∧ v g 12 = g + 10 ∧ v g 13 = g + 11
theorem ok_fn {S S' T : qK} (a : qI S S') (b : qI S' T) : qI S T := sorry
/-! the same for a method of the JDK that the machine has no entry for -/
set_option maxRecDepth 100000 in
theorem qM.o0F {l : Launch} {D : qD} {M : qm} {d0 : Nat} {as : List qv} {h : qh} {Q : qQ} (N : Nat) (hN : M.2.2.1 = N) (hp : plainFor M.1 = true) (hlen : (q_ent as).length ≤ N)
    (k : qR l D (d0, 0, 0) M 0 (fun r h' => Q r ((h'.1.1, h.1.2.1, h.1.2.2), h'.2)) (q_ent as ++ List.replicate (N - (q_ent as).length) none) [] ((h.1.1, 0, 0), h.2)) : qM l D (d0, 0, 0) M as h Q := sorry
end
section
/-! printed by gen/sym.py: the shapes of the cells -/
set_option maxRecDepth 100000
theorem sh_0 : q_shp 0 = (0, 0) := sorry
theorem sh_1 : q_shp 1 = (101, 2000) := sorry
theorem sh_2 : q_shp 2 = (104, 4) := sorry
theorem sh_3 : q_shp 3 = (1, 0) := sorry
theorem sh_4 : q_shp 4 = (105, 31) := sorry
theorem sh_5 : q_shp 5 = (2, 0) := sorry
theorem sh_6 : q_shp 6 = (100, 24) := sorry
theorem sh_7 : q_shp 7 = (100, 24) := sorry
theorem sh_8 : q_shp 8 = (100, 48) := sorry
theorem sh_9 : q_shp 9 = (100, 1152) := sorry
theorem sh_10 : q_shp 10 = (100, 1152) := sorry
theorem sh_11 : q_shp 11 = (100, 24) := sorry
theorem sh_12 : q_shp 12 = (100, 24) := sorry
theorem sh_13 : q_shp 13 = (100, 96) := sorry
theorem sh_14 : q_shp 14 = (100, 32) := sorry
theorem sh_15 : q_shp 15 = (102, 48) := sorry
theorem sh_16 : q_shp 16 = (100, 72) := sorry
theorem sh_17 : q_shp 17 = (100, 144) := sorry
theorem sh_18 : q_shp 18 = (3, 0) := sorry
theorem sh_19 : q_shp 19 = (101, 192) := sorry
theorem sh_20 : q_shp 20 = (101, 64) := sorry
theorem sh_21 : q_shp 21 = (100, 24) := sorry
theorem sh_22 : q_shp 22 = (100, 24) := sorry
theorem sh_23 : q_shp 23 = (100, 24) := sorry
theorem sh_24 : q_shp 24 = (100, 48) := sorry
theorem sh_25 : q_shp 25 = (100, 48) := sorry
theorem sh_26 : q_shp 26 = (100, 48) := sorry
theorem sh_27 : q_shp 27 = (102, 48) := sorry
theorem sh_28 : q_shp 28 = (100, 8) := sorry
theorem sh_29 : q_shp 29 = (100, 8) := sorry
theorem sh_30 : q_shp 30 = (1, 0) := sorry
theorem sh_31 : q_shp 31 = (105, 31) := sorry
theorem sh_32 : q_shp 32 = (2, 0) := sorry
theorem sh_33 : q_shp 33 = (100, 24) := sorry
theorem sh_34 : q_shp 34 = (100, 24) := sorry
theorem sh_35 : q_shp 35 = (100, 48) := sorry
theorem sh_36 : q_shp 36 = (100, 1152) := sorry
theorem sh_37 : q_shp 37 = (100, 1152) := sorry
theorem sh_38 : q_shp 38 = (100, 24) := sorry
theorem sh_39 : q_shp 39 = (100, 24) := sorry
theorem sh_40 : q_shp 40 = (100, 96) := sorry
theorem sh_41 : q_shp 41 = (100, 32) := sorry
theorem sh_42 : q_shp 42 = (102, 48) := sorry
theorem sh_43 : q_shp 43 = (100, 72) := sorry
theorem sh_44 : q_shp 44 = (100, 144) := sorry
theorem sh_45 : q_shp 45 = (3, 0) := sorry
theorem sh_46 : q_shp 46 = (101, 192) := sorry
theorem sh_47 : q_shp 47 = (101, 64) := sorry
theorem sh_48 : q_shp 48 = (100, 24) := sorry
theorem sh_49 : q_shp 49 = (100, 24) := sorry
theorem sh_50 : q_shp 50 = (100, 24) := sorry
theorem sh_51 : q_shp 51 = (100, 48) := sorry
theorem sh_52 : q_shp 52 = (100, 48) := sorry
theorem sh_53 : q_shp 53 = (100, 48) := sorry
theorem sh_54 : q_shp 54 = (102, 48) := sorry
theorem sh_55 : q_shp 55 = (100, 8) := sorry
theorem sh_56 : q_shp 56 = (100, 8) := sorry
theorem sh_57 : q_shp 57 = (1, 0) := sorry
theorem sh_58 : q_shp 58 = (105, 31) := sorry
theorem sh_59 : q_shp 59 = (2, 0) := sorry
theorem sh_60 : q_shp 60 = (100, 24) := sorry
theorem sh_61 : q_shp 61 = (100, 24) := sorry
theorem sh_62 : q_shp 62 = (100, 48) := sorry
theorem sh_63 : q_shp 63 = (100, 1152) := sorry
theorem sh_64 : q_shp 64 = (100, 1152) := sorry
theorem sh_65 : q_shp 65 = (100, 24) := sorry
theorem sh_66 : q_shp 66 = (100, 24) := sorry
theorem sh_67 : q_shp 67 = (100, 96) := sorry
theorem sh_68 : q_shp 68 = (100, 32) := sorry
theorem sh_69 : q_shp 69 = (102, 48) := sorry
theorem sh_70 : q_shp 70 = (100, 72) := sorry
theorem sh_71 : q_shp 71 = (100, 144) := sorry
theorem sh_72 : q_shp 72 = (3, 0) := sorry
theorem sh_73 : q_shp 73 = (101, 192) := sorry
theorem sh_74 : q_shp 74 = (101, 64) := sorry
theorem sh_75 : q_shp 75 = (100, 24) := sorry
theorem sh_76 : q_shp 76 = (100, 24) := sorry
theorem sh_77 : q_shp 77 = (100, 24) := sorry
theorem sh_78 : q_shp 78 = (100, 48) := sorry
theorem sh_79 : q_shp 79 = (100, 48) := sorry
theorem sh_80 : q_shp 80 = (100, 48) := sorry
theorem sh_81 : q_shp 81 = (102, 48) := sorry
theorem sh_82 : q_shp 82 = (100, 8) := sorry
theorem sh_83 : q_shp 83 = (100, 8) := sorry
theorem sh_84 : q_shp 84 = (1, 0) := sorry
theorem sh_85 : q_shp 85 = (105, 31) := sorry
theorem sh_86 : q_shp 86 = (2, 0) := sorry
theorem sh_87 : q_shp 87 = (100, 24) := sorry
theorem sh_88 : q_shp 88 = (100, 24) := sorry
theorem sh_89 : q_shp 89 = (100, 48) := sorry
theorem sh_90 : q_shp 90 = (100, 1152) := sorry
theorem sh_91 : q_shp 91 = (100, 1152) := sorry
theorem sh_92 : q_shp 92 = (100, 24) := sorry
theorem sh_93 : q_shp 93 = (100, 24) := sorry
theorem sh_94 : q_shp 94 = (100, 96) := sorry
theorem sh_95 : q_shp 95 = (100, 32) := sorry
theorem sh_96 : q_shp 96 = (102, 48) := sorry
theorem sh_97 : q_shp 97 = (100, 72) := sorry
theorem sh_98 : q_shp 98 = (100, 144) := sorry
theorem sh_99 : q_shp 99 = (3, 0) := sorry
theorem sh_100 : q_shp 100 = (101, 192) := sorry
theorem sh_101 : q_shp 101 = (101, 64) := sorry
theorem sh_102 : q_shp 102 = (100, 24) := sorry
theorem sh_103 : q_shp 103 = (100, 24) := sorry
theorem sh_104 : q_shp 104 = (100, 24) := sorry
theorem sh_105 : q_shp 105 = (100, 48) := sorry
theorem sh_106 : q_shp 106 = (100, 48) := sorry
theorem sh_107 : q_shp 107 = (100, 48) := sorry
theorem sh_108 : q_shp 108 = (102, 48) := sorry
theorem sh_109 : q_shp 109 = (100, 8) := sorry
theorem sh_110 : q_shp 110 = (100, 8) := sorry
theorem sh_111 : q_shp 111 = (4, 0) := sorry
theorem sh_112 : q_shp 112 = (101, 2000) := sorry
theorem sh_113 : q_shp 113 = (5, 0) := sorry
theorem sh_114 : q_shp 114 = (3, 0) := sorry
theorem sh_115 : q_shp 115 = (101, 192) := sorry
theorem sh_116 : q_shp 116 = (101, 64) := sorry
theorem sh_117 : q_shp 117 = (100, 24) := sorry
theorem sh_118 : q_shp 118 = (100, 24) := sorry
theorem sh_119 : q_shp 119 = (100, 24) := sorry
theorem sh_120 : q_shp 120 = (100, 48) := sorry
theorem sh_121 : q_shp 121 = (100, 48) := sorry
theorem sh_122 : q_shp 122 = (100, 48) := sorry
theorem sh_123 : q_shp 123 = (102, 48) := sorry
theorem sh_124 : q_shp 124 = (100, 8) := sorry
theorem sh_125 : q_shp 125 = (100, 8) := sorry
theorem sh_126 : q_shp 126 = (6, 0) := sorry
theorem sh_127 : q_shp 127 = (101, 2000) := sorry
theorem sh_128 : q_shp 128 = (5, 0) := sorry
theorem sh_129 : q_shp 129 = (100, 4000) := sorry
theorem sh_130 : q_shp 130 = (100, 4000) := sorry
theorem sh_131 : q_shp 131 = (106, 10) := sorry
theorem sh_132 : q_shp 132 = (106, 8) := sorry
theorem sh_133 : q_shp 133 = (106, 3) := sorry
theorem sh_134 : q_shp 134 = (103, 64) := sorry
theorem sh_135 : q_shp 135 = (7, 0) := sorry
theorem sh_136 : q_shp 136 = (100, 24) := sorry
theorem sh_137 : q_shp 137 = (100, 24) := sorry
theorem sh_138 : q_shp 138 = (100, 24) := sorry
theorem sh_139 : q_shp 139 = (100, 24) := sorry
theorem sh_140 : q_shp 140 = (100, 48) := sorry
theorem sh_141 : q_shp 141 = (100, 24) := sorry
theorem sh_142 : q_shp 142 = (100, 24) := sorry
theorem sh_143 : q_shp 143 = (100, 24) := sorry
theorem sh_144 : q_shp 144 = (100, 48) := sorry
theorem sh_145 : q_shp 145 = (8, 0) := sorry
theorem sh_146 : q_shp 146 = (100, 24) := sorry
theorem sh_147 : q_shp 147 = (100, 24) := sorry
theorem sh_148 : q_shp 148 = (100, 576) := sorry
theorem sh_149 : q_shp 149 = (100, 576) := sorry
theorem sh_150 : q_shp 150 = (100, 24) := sorry
theorem sh_151 : q_shp 151 = (100, 24) := sorry
theorem sh_152 : q_shp 152 = (9, 0) := sorry
theorem sh_153 : q_shp 153 = (100, 72) := sorry
theorem sh_154 : q_shp 154 = (100, 72) := sorry
theorem sh_155 : q_shp 155 = (100, 72) := sorry
theorem sh_156 : q_shp 156 = (102, 72) := sorry
theorem sh_157 : q_shp 157 = (100, 1248) := sorry
theorem sh_158 : q_shp 158 = (100, 48) := sorry
theorem sh_159 : q_shp 159 = (100, 48) := sorry
theorem sh_160 : q_shp 160 = (100, 72) := sorry
theorem sh_161 : q_shp 161 = (100, 72) := sorry
theorem sh_162 : q_shp 162 = (100, 25) := sorry
theorem sh_163 : q_shp 163 = (100, 25) := sorry
theorem sh_164 : q_shp 164 = (100, 625) := sorry
theorem sh_165 : q_shp 165 = (100, 26) := sorry
theorem sh_166 : q_shp 166 = (10, 0) := sorry
theorem sh_167 : q_shp 167 = (100, 80) := sorry
theorem sh_168 : q_shp 168 = (100, 80) := sorry
theorem sh_169 : q_shp 169 = (100, 24) := sorry
theorem sh_170 : q_shp 170 = (100, 768) := sorry
theorem sh_171 : q_shp 171 = (100, 9600) := sorry
theorem sh_172 : q_shp 172 = (100, 60) := sorry
theorem sh_173 : q_shp 173 = (100, 80) := sorry
theorem sh_174 : q_shp 174 = (100, 80) := sorry
theorem sh_175 : q_shp 175 = (3, 0) := sorry
theorem sh_176 : q_shp 176 = (101, 192) := sorry
theorem sh_177 : q_shp 177 = (101, 64) := sorry
theorem sh_178 : q_shp 178 = (100, 24) := sorry
theorem sh_179 : q_shp 179 = (100, 24) := sorry
theorem sh_180 : q_shp 180 = (100, 24) := sorry
theorem sh_181 : q_shp 181 = (100, 48) := sorry
theorem sh_182 : q_shp 182 = (100, 48) := sorry
theorem sh_183 : q_shp 183 = (100, 48) := sorry
theorem sh_184 : q_shp 184 = (102, 48) := sorry
theorem sh_185 : q_shp 185 = (100, 8) := sorry
theorem sh_186 : q_shp 186 = (100, 8) := sorry
theorem sh_187 : q_shp 187 = (7, 0) := sorry
theorem sh_188 : q_shp 188 = (100, 24) := sorry
theorem sh_189 : q_shp 189 = (100, 24) := sorry
theorem sh_190 : q_shp 190 = (100, 24) := sorry
theorem sh_191 : q_shp 191 = (100, 24) := sorry
theorem sh_192 : q_shp 192 = (100, 48) := sorry
theorem sh_193 : q_shp 193 = (100, 24) := sorry
theorem sh_194 : q_shp 194 = (100, 24) := sorry
theorem sh_195 : q_shp 195 = (100, 24) := sorry
theorem sh_196 : q_shp 196 = (100, 48) := sorry
theorem sh_197 : q_shp 197 = (100, 48) := sorry
theorem sh_198 : q_shp 198 = (2, 0) := sorry
theorem sh_199 : q_shp 199 = (100, 24) := sorry
theorem sh_200 : q_shp 200 = (100, 24) := sorry
theorem sh_201 : q_shp 201 = (100, 48) := sorry
theorem sh_202 : q_shp 202 = (100, 1152) := sorry
theorem sh_203 : q_shp 203 = (100, 1152) := sorry
theorem sh_204 : q_shp 204 = (100, 24) := sorry
theorem sh_205 : q_shp 205 = (100, 24) := sorry
theorem sh_206 : q_shp 206 = (100, 96) := sorry
theorem sh_207 : q_shp 207 = (100, 32) := sorry
theorem sh_208 : q_shp 208 = (102, 48) := sorry
theorem sh_209 : q_shp 209 = (11, 0) := sorry
theorem sh_210 : q_shp 210 = (12, 0) := sorry
theorem sh_211 : q_shp 211 = (100, 420) := sorry
theorem sh_212 : q_shp 212 = (100, 420) := sorry
theorem sh_213 : q_shp 213 = (100, 420) := sorry
theorem sh_214 : q_shp 214 = (100, 420) := sorry
theorem sh_215 : q_shp 215 = (100, 220) := sorry
theorem sh_216 : q_shp 216 = (100, 220) := sorry
theorem sh_217 : q_shp 217 = (102, 48) := sorry
theorem sh_218 : q_shp 218 = (100, 24) := sorry
theorem sh_219 : q_shp 219 = (100, 73) := sorry
theorem sh_220 : q_shp 220 = (100, 73) := sorry
theorem sh_221 : q_shp 221 = (100, 25) := sorry
theorem sh_222 : q_shp 222 = (100, 24) := sorry
theorem sh_223 : q_shp 223 = (100, 72) := sorry
theorem sh_224 : q_shp 224 = (100, 72) := sorry
theorem sh_225 : q_shp 225 = (100, 72) := sorry
theorem sh_226 : q_shp 226 = (100, 120) := sorry
theorem sh_227 : q_shp 227 = (100, 120) := sorry
theorem sh_228 : q_shp 228 = (100, 120) := sorry
theorem sh_229 : q_shp 229 = (100, 128) := sorry
theorem sh_230 : q_shp 230 = (100, 72) := sorry
theorem sh_231 : q_shp 231 = (100, 72) := sorry
theorem sh_232 : q_shp 232 = (100, 72) := sorry
theorem sh_233 : q_shp 233 = (100, 4320) := sorry
theorem sh_234 : q_shp 234 = (100, 720) := sorry
theorem sh_235 : q_shp 235 = (100, 720) := sorry
theorem sh_236 : q_shp 236 = (100, 17280) := sorry
theorem sh_237 : q_shp 237 = (100, 36) := sorry
theorem sh_238 : q_shp 238 = (13, 0) := sorry
theorem sh_239 : q_shp 239 = (100, 24) := sorry
theorem sh_240 : q_shp 240 = (100, 25) := sorry
theorem sh_241 : q_shp 241 = (100, 24) := sorry
theorem sh_242 : q_shp 242 = (100, 24) := sorry
theorem sh_243 : q_shp 243 = (100, 24) := sorry
theorem sh_244 : q_shp 244 = (100, 24) := sorry
theorem sh_245 : q_shp 245 = (100, 24) := sorry
theorem sh_246 : q_shp 246 = (14, 0) := sorry
theorem sh_247 : q_shp 247 = (100, 24) := sorry
theorem sh_248 : q_shp 248 = (100, 24) := sorry
theorem sh_249 : q_shp 249 = (100, 24) := sorry
theorem sh_250 : q_shp 250 = (100, 60) := sorry
theorem sh_251 : q_shp 251 = (100, 24) := sorry
theorem sh_252 : q_shp 252 = (100, 24) := sorry
theorem sh_253 : q_shp 253 = (15, 0) := sorry
theorem sh_254 : q_shp 254 = (100, 24) := sorry
theorem sh_255 : q_shp 255 = (100, 576) := sorry
theorem sh_256 : q_shp 256 = (100, 576) := sorry
theorem sh_257 : q_shp 257 = (100, 24) := sorry
theorem sh_258 : q_shp 258 = (100, 24) := sorry
theorem sh_259 : q_shp 259 = (100, 32) := sorry
theorem sh_260 : q_shp 260 = (100, 32) := sorry
theorem sh_261 : q_shp 261 = (100, 24) := sorry
theorem sh_262 : q_shp 262 = (100, 24) := sorry
theorem sh_263 : q_shp 263 = (103, 24) := sorry
theorem sh_264 : q_shp 264 = (103, 24) := sorry
theorem sh_265 : q_shp 265 = (103, 24) := sorry
theorem sh_266 : q_shp 266 = (103, 24) := sorry
theorem sh_267 : q_shp 267 = (16, 0) := sorry
theorem sh_268 : q_shp 268 = (100, 24000) := sorry
theorem sh_269 : q_shp 269 = (102, 6000) := sorry
theorem sh_270 : q_shp 270 = (100, 24) := sorry
theorem sh_271 : q_shp 271 = (100, 24) := sorry
theorem sh_272 : q_shp 272 = (17, 0) := sorry
theorem sh_273 : q_shp 273 = (102, 48) := sorry
theorem sh_274 : q_shp 274 = (101, 4000) := sorry
theorem sh_275 : q_shp 275 = (101, 4000) := sorry
theorem sh_276 : q_shp 276 = (100, 4096) := sorry
theorem sh_277 : q_shp 277 = (100, 48) := sorry
theorem sh_278 : q_shp 278 = (100, 48) := sorry
theorem sh_279 : q_shp 279 = (102, 48) := sorry
theorem sh_280 : q_shp 280 = (18, 0) := sorry
theorem sh_281 : q_shp 281 = (101, 2000) := sorry
theorem sh_282 : q_shp 282 = (100, 66836) := sorry
theorem sh_283 : q_shp 283 = (100, 4) := sorry
theorem sh_284 : q_shp 284 = (100, 4) := sorry
theorem sh_285 : q_shp 285 = (100, 539) := sorry
theorem sh_286 : q_shp 286 = (100, 25) := sorry
theorem sh_287 : q_shp 287 = (100, 80) := sorry
theorem sh_288 : q_shp 288 = (100, 24) := sorry
theorem sh_289 : q_shp 289 = (100, 25) := sorry
theorem sh_290 : q_shp 290 = (100, 100) := sorry
theorem sh_291 : q_shp 291 = (102, 576) := sorry
theorem sh_292 : q_shp 292 = (102, 25) := sorry
theorem sh_293 : q_shp 293 = (100, 24) := sorry
theorem sh_294 : q_shp 294 = (100, 24) := sorry
theorem sh_295 : q_shp 295 = (100, 80) := sorry
theorem sh_296 : q_shp 296 = (100, 80) := sorry
theorem sh_297 : q_shp 297 = (102, 80) := sorry
theorem sh_298 : q_shp 298 = (100, 26) := sorry
theorem sh_299 : q_shp 299 = (100, 2080) := sorry
theorem sh_300 : q_shp 300 = (102, 26) := sorry
theorem sh_301 : q_shp 301 = (100, 120) := sorry
theorem sh_302 : q_shp 302 = (100, 7200) := sorry
theorem sh_303 : q_shp 303 = (102, 26) := sorry
theorem sh_304 : q_shp 304 = (102, 80) := sorry
theorem sh_305 : q_shp 305 = (100, 80) := sorry
theorem sh_306 : q_shp 306 = (100, 30) := sorry
theorem sh_307 : q_shp 307 = (100, 26) := sorry
theorem sh_308 : q_shp 308 = (100, 80) := sorry
theorem sh_309 : q_shp 309 = (100, 120) := sorry
theorem sh_310 : q_shp 310 = (100, 30) := sorry
theorem sh_311 : q_shp 311 = (100, 160) := sorry
theorem sh_312 : q_shp 312 = (100, 160) := sorry
theorem sh_313 : q_shp 313 = (100, 161) := sorry
theorem sh_314 : q_shp 314 = (100, 160) := sorry
theorem sh_315 : q_shp 315 = (100, 80) := sorry
theorem sh_316 : q_shp 316 = (100, 4) := sorry
theorem sh_317 : q_shp 317 = (100, 96) := sorry
theorem sh_318 : q_shp 318 = (100, 96) := sorry
theorem sh_319 : q_shp 319 = (100, 192) := sorry
theorem sh_320 : q_shp 320 = (100, 4608) := sorry
theorem sh_321 : q_shp 321 = (100, 4608) := sorry
theorem sh_322 : q_shp 322 = (100, 4) := sorry
theorem sh_323 : q_shp 323 = (100, 4) := sorry
theorem sh_324 : q_shp 324 = (100, 96) := sorry
theorem sh_325 : q_shp 325 = (100, 192) := sorry
theorem sh_326 : q_shp 326 = (100, 384) := sorry
theorem sh_327 : q_shp 327 = (100, 128) := sorry
theorem sh_328 : q_shp 328 = (100, 864) := sorry
theorem sh_329 : q_shp 329 = (100, 100) := sorry
theorem sh_330 : q_shp 330 = (100, 100) := sorry
theorem sh_331 : q_shp 331 = (100, 48) := sorry
theorem sh_332 : q_shp 332 = (100, 1152) := sorry
theorem sh_333 : q_shp 333 = (100, 1152) := sorry
theorem sh_334 : q_shp 334 = (100, 76) := sorry
theorem sh_335 : q_shp 335 = (100, 200) := sorry
theorem sh_336 : q_shp 336 = (100, 200) := sorry
theorem sh_337 : q_shp 337 = (100, 200) := sorry
theorem sh_338 : q_shp 338 = (102, 200) := sorry
theorem sh_339 : q_shp 339 = (100, 200) := sorry
theorem sh_340 : q_shp 340 = (100, 200) := sorry
theorem sh_341 : q_shp 341 = (100, 200) := sorry
theorem sh_342 : q_shp 342 = (100, 6084) := sorry
theorem sh_343 : q_shp 343 = (100, 78) := sorry
theorem sh_344 : q_shp 344 = (100, 100) := sorry
theorem sh_345 : q_shp 345 = (100, 78) := sorry
theorem sh_346 : q_shp 346 = (102, 48) := sorry
theorem sh_347 : q_shp 347 = (100, 26) := sorry
theorem sh_348 : q_shp 348 = (100, 26) := sorry
theorem sh_349 : q_shp 349 = (100, 26) := sorry
theorem sh_350 : q_shp 350 = (100, 76) := sorry
theorem sh_351 : q_shp 351 = (100, 76) := sorry
theorem sh_352 : q_shp 352 = (100, 48) := sorry
theorem sh_353 : q_shp 353 = (100, 76) := sorry
theorem sh_354 : q_shp 354 = (100, 5776) := sorry
theorem sh_355 : q_shp 355 = (100, 130) := sorry
theorem sh_356 : q_shp 356 = (100, 130) := sorry
theorem sh_357 : q_shp 357 = (100, 8) := sorry
theorem sh_358 : q_shp 358 = (100, 8) := sorry
theorem sh_359 : q_shp 359 = (101, 6000) := sorry
theorem sh_360 : q_shp 360 = (100, 54720) := sorry
theorem sh_361 : q_shp 361 = (100, 36) := sorry
theorem sh_362 : q_shp 362 = (100, 76) := sorry
theorem sh_363 : q_shp 363 = (100, 6) := sorry
theorem sh_364 : q_shp 364 = (100, 100) := sorry
theorem sh_365 : q_shp 365 = (100, 5776) := sorry
theorem sh_366 : q_shp 366 = (103, 76) := sorry
theorem sh_367 : q_shp 367 = (103, 76) := sorry
theorem sh_368 : q_shp 368 = (100, 30) := sorry
theorem sh_369 : q_shp 369 = (100, 26) := sorry
theorem sh_370 : q_shp 370 = (100, 26) := sorry
theorem sh_371 : q_shp 371 = (100, 26) := sorry
theorem sh_372 : q_shp 372 = (100, 26) := sorry
theorem sh_373 : q_shp 373 = (100, 26) := sorry
theorem sh_374 : q_shp 374 = (100, 26) := sorry
theorem sh_375 : q_shp 375 = (100, 40) := sorry
theorem sh_376 : q_shp 376 = (100, 40) := sorry
theorem sh_377 : q_shp 377 = (103, 26) := sorry
theorem sh_378 : q_shp 378 = (103, 26) := sorry
theorem sh_379 : q_shp 379 = (103, 26) := sorry
theorem sh_380 : q_shp 380 = (103, 26) := sorry
theorem sh_381 : q_shp 381 = (100, 24000) := sorry
theorem sh_382 : q_shp 382 = (100, 96040) := sorry
theorem sh_383 : q_shp 383 = (100, 4) := sorry
theorem sh_384 : q_shp 384 = (102, 6000) := sorry
theorem sh_385 : q_shp 385 = (100, 26) := sorry
theorem sh_386 : q_shp 386 = (100, 26) := sorry
theorem sh_387 : q_shp 387 = (100, 48) := sorry
theorem sh_388 : q_shp 388 = (100, 48) := sorry
theorem sh_389 : q_shp 389 = (100, 2010) := sorry
theorem sh_390 : q_shp 390 = (103, 2010) := sorry
theorem sh_391 : q_shp 391 = (100, 2010) := sorry
theorem sh_392 : q_shp 392 = (100, 2010) := sorry
theorem sh_393 : q_shp 393 = (100, 26) := sorry
theorem sh_394 : q_shp 394 = (100, 26) := sorry
theorem sh_395 : q_shp 395 = (102, 48) := sorry
theorem sh_396 : q_shp 396 = (101, 4000) := sorry
theorem sh_397 : q_shp 397 = (101, 4000) := sorry
theorem sh_398 : q_shp 398 = (100, 4096) := sorry
end
